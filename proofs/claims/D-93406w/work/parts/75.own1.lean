/-! TermIdeals' own world (printed by tw.py) -/
set_option maxRecDepth 100000
abbrev ti_Ti : Type := (Nat → Nat → Nat) × (Nat → Nat → Nat) × (Nat → Nat)
abbrev ti_Tr : Type := (Nat → Nat) × (Nat → Nat) × Nat
abbrev ti_Tf : Type := Value × (Nat → Nat) × (Nat → Nat) × (Nat → Nat) × Nat × Nat × Nat × (Nat → Nat) × (Nat → Nat) × Nat
abbrev ti_Td : Type := (Nat → Nat) × (Nat → Nat) × Nat × (Nat → Nat → Nat) × (Nat → Nat → Nat) × (Nat → Nat)
abbrev ti_Tw : Type := (Nat → Nat) × (Nat → Nat) × (Nat → Nat) × Nat
/-- two things by their numbers -/
def ti_j2 {α : Type} (x y : α) : Nat → α
  | 0 => x
  | _ => y
def ti_Jok (x : ti_Ti) : Prop := (∀ i k, x.1 i k ≤ 9) ∧ (∀ i k, x.2.1 i k ≤ 9) ∧ ∀ i, x.2.2 i ≤ 6
def ti_Rok (x : ti_Tr) : Prop := (∀ k, x.1 k ≤ 9) ∧ (∀ k, x.2.1 k ≤ 9) ∧ x.2.2 ≤ 6
def ti_Fok (x : ti_Tf) : Prop := x.2.2.2.2.1 ≤ 8 ∧ (∀ k, x.2.1 k ≤ 9) ∧ (∀ k, x.2.2.1 k ≤ 9) ∧ (∀ k, x.2.2.2.1 k ≤ 9999) ∧ x.2.2.2.2.2.1 ≤ 180 ∧ x.2.2.2.2.2.2.1 ≤ 9999 ∧ (∀ k, x.2.2.2.2.2.2.2.1 k ≤ 180) ∧ ∀ k, x.2.2.2.2.2.2.2.2.1 k ≤ 9999
def ti_Dok (x : ti_Td) : Prop := ti_DI x.1 x.2.1 x.2.2.1 x.2.2.2.1 x.2.2.2.2.1 x.2.2.2.2.2
abbrev ti_Dl (x : ti_Td) : ti_DL := ti_dl x.2.1 x.1 x.2.2.2.1 x.2.2.2.2.1 x.2.2.2.2.2 0 x.2.2.1
/-- an ideal's generators -/
abbrev ti_JG (x : ti_Ti) (i : Nat) : ti_GL := ti_gr (x.1 i) (x.2.1 i) 0 (x.2.2 i)
def ti_JI (x : ti_Ti) (I : Nat → ti_GL) : Prop := ∀ i, i < 2 → ti_JG x i = I i
theorem ti_JI_len {x : ti_Ti} {I : Nat → ti_GL} (h : ti_JI x I) {i : Nat} (hi : i < 2) : (I i).length = x.2.2 i := by rw [← h i hi, ti_gr_len]
theorem ti_j2_all {α : Type} {P : α → Prop} {x y : α} (h1 : P x) (h2 : P y) : ∀ i, P (ti_j2 x y i)
  | 0 => h1
  | _ + 1 => h2
theorem ti_Jok2 {a0 a1 b0 b1 : Nat → Nat} {n0 n1 : Nat} (h1 : ∀ k, a0 k ≤ 9) (h2 : ∀ k, a1 k ≤ 9) (h3 : ∀ k, b0 k ≤ 9) (h4 : ∀ k, b1 k ≤ 9) (h5 : n0 ≤ 6) (h6 : n1 ≤ 6) : ti_Jok (ti_j2 a0 a1, ti_j2 b0 b1, ti_j2 n0 n1) :=
  ⟨ti_j2_all (P := fun f : Nat → Nat => ∀ k, f k ≤ 9) h1 h2, ti_j2_all (P := fun f : Nat → Nat => ∀ k, f k ≤ 9) h3 h4, ti_j2_all (P := fun n : Nat => n ≤ 6) h5 h6⟩
theorem ti_JI2 {a0 a1 b0 b1 : Nat → Nat} {n0 n1 : Nat} {I : Nat → ti_GL} (h0 : ti_gr a0 b0 0 n0 = I 0) (h1 : ti_gr a1 b1 0 n1 = I 1) : ti_JI (ti_j2 a0 a1, ti_j2 b0 b1, ti_j2 n0 n1) I := by
  intro i hi
  match i, hi with
  | 0, _ => exact h0
  | 1, _ => exact h1
theorem ti_JIu0 {a0 a1 b0 b1 : Nat → Nat} {n0 n1 : Nat} {I : Nat → ti_GL} {g : ti_GL} (h0 : ti_gr a0 b0 0 n0 = g) (h1 : ti_gr a1 b1 0 n1 = I 1) : ti_JI (ti_j2 a0 a1, ti_j2 b0 b1, ti_j2 n0 n1) (va_up I 0 g) := ti_JI2 (by rw [va_up_self]; exact h0) (by rw [va_up_ne I g (show (1 : Nat) ≠ 0 by decide)]; exact h1)
theorem ti_JIu1 {a0 a1 b0 b1 : Nat → Nat} {n0 n1 : Nat} {I : Nat → ti_GL} {g : ti_GL} (h1 : ti_gr a1 b1 0 n1 = g) (h0 : ti_gr a0 b0 0 n0 = I 0) : ti_JI (ti_j2 a0 a1, ti_j2 b0 b1, ti_j2 n0 n1) (va_up I 1 g) := ti_JI2 (by rw [va_up_ne I g (show (0 : Nat) ≠ 1 by decide)]; exact h0) (by rw [va_up_self]; exact h1)

theorem ti_keep2 {i : Nat} {g g' : ti_GL} {z z' : ti_DL} (h1 : g = g') (h2 : z = z') : ti_keep (i, g) z = ti_keep (i, g') z' := by rw [h1, h2]
/-- looks at an ideal without generators -/
theorem met_X2_looks_z (l : Launch) (D : va_G) (E : Nat → ClassId) (htr : l.stackTraces = false) (z0 : Nat) (f0 f1 f2 f3 f4 f5 : Nat) (ov : Value) (ss ts lv : Nat → Nat) (nf up low : Nat) (us los : Nat → Nat) (nj : Nat) (h ua ub : Nat) (fa fb : Nat → Nat) (n : Nat) (hz : n = 0) :
    ti_MetX (σ := Unit) (τ := Nat × Value × Value) l D E yX2_looks (ws_ yX2_looks cX2_looks 4 (some (.object "TermIdeals$Faces"))) 6 1 6 z0 (ti_wF E f0 f1 f2 f3 f4 f5 ov ss ts lv nf up low us los nj ++ ti_wI E h ua ub fa fb n) [.ref f0, .ref h] (fun _ => True)
      (fun _ => ti_wF E f0 f1 f2 f3 f4 f5 ov ss ts lv nf up low us los nj ++ ti_wI E h ua ub fa fb n) (fun _ => none) (fun _ => False) (fun _ _ => True)
      (fun _ => RX8) (fun w => w.1) (fun _ => ti_wF E f0 f1 f2 f3 f4 f5 ov ss ts lv nf up low us los nj ++ ti_wI E h ua ub fa fb n) ti_exE (fun _ => True) (fun w H => ti_free w.1 H) := by
  subst hz
  exact met_X2_looks_0 l D E htr z0 f0 f1 f2 f3 f4 f5 ov ss ts lv nf up low us los nj h ua ub fa fb
section TBA
variable {p : Program} {l : Launch} {e : Env} {R : Room} {s : State} {m : MethodId} {args : Array Value} {below : List Frame} {meth : Method} {c : Code} {H H0 : Heap} {locs : List Loc} {cells slots : Nat} {Q : State → Prop}
variable {cc : ByteArray} {pc : Nat} {ls : Array Slot} {rest : List Value} {D : va_G} {cl : List vw_C} {tys : List (ClassId × FieldType)} {ws : va_W} {a : Nat} {A : Nat → Prop}
theorem tn_bast (hx : p.tables.exec = Jvm.exec) (hb : c.code = cc) (hK : va_K D cl tys s) (hP : va_P D cl ws H) (hD : va_D A ws) (hS : va_S A H0 H locs) (q0 t0 : Nat) {cA : ClassId} {n i v : Nat} {x : Int32} {f : Nat → Nat} (ha : ws[q0]? = some (a, .inl (cA, n, .inl (ti_n f)))) (ht : tys[t0]? = some (cA, .byte)) (hi : i < n) (hn : n < 2 ^ 31) (hv : vp_nar .byte x = nI v) (hd : decode cc pc = .ok (.bastore, 1))
    (k : ∀ (H : Heap) (locs : List Loc), va_P D cl (ws.set q0 (a, .inl (cA, n, .inl (ti_n (va_up f i v))))) H → va_D A (ws.set q0 (a, .inl (cA, n, .inl (ti_n (va_up f i v))))) → va_S A H0 H locs → W p l e R s m args below meth c H locs cells slots Q (F0 m (pc + 1) ls rest)) : W p l e R s m args below meth c H locs cells slots Q (F0 m pc ls (.int x :: .int (nI i) :: .ref a :: rest)) :=
  va_bast hx hb hK hP hD hS q0 t0 ha ht (vp_in_nI hi hn) hd (by rw [nI_clamp (Nat.lt_trans hi hn), hv, show upd (ti_n f) i (nI v) = ti_n (va_up f i v) from ti_n_up f i v]; exact k)
end TBA
theorem ti_nar8 : ∀ w : Nat, w ≤ 127 → vp_nar .byte (Int8.toInt32 (Int32.toInt8 (nI w))) = nI w := by decide

abbrev ti_wMJ (E : Nat → ClassId) (ad dh du dv jh ju jv kh ku kv : Nat → Nat) (tx : Nat) (hi : Bool) (xi : ti_Ti) : va_W := [(ad 0, .inr (0, [.ref (ad 1), .ref (ad 2), .ref (ad 5), .ref (ad 11), .ref (ad 14), .ref (ad 16), .ref (ad 18), .ref (ad 20), .ref (ad 22), .int (nI tx), .ref (ad 23), .ref (ad 27), .ref (ad 31), .ref (ad 35), .ref (ad 36), .ref (ad 37), .ref (ad 41), .ref (ad 45), .int (ti_b hi)])), (ad 1, .inl (E 5, 2, .inr (.inr (.inr (.inr (ti_o jh (fun j => j))))))), (jh 0, .inr (1, [.ref (ju 0), .ref (jv 0), .int (nI (xi.2.2 0))])), (ju 0, .inl (E 0, 6, .inl (ti_n (xi.1 0)))), (jv 0, .inl (E 0, 6, .inl (ti_n (xi.2.1 0)))), (jh 1, .inr (1, [.ref (ju 1), .ref (jv 1), .int (nI (xi.2.2 1))])), (ju 1, .inl (E 0, 6, .inl (ti_n (xi.1 1)))), (jv 1, .inl (E 0, 6, .inl (ti_n (xi.2.1 1))))]

abbrev ti_wMJD (E : Nat → ClassId) (ad dh du dv jh ju jv kh ku kv : Nat → Nat) (tx : Nat) (hi : Bool) (xi : ti_Ti) (xd : ti_Td) : va_W := [(ad 0, .inr (0, [.ref (ad 1), .ref (ad 2), .ref (ad 5), .ref (ad 11), .ref (ad 14), .ref (ad 16), .ref (ad 18), .ref (ad 20), .ref (ad 22), .int (nI tx), .ref (ad 23), .ref (ad 27), .ref (ad 31), .ref (ad 35), .ref (ad 36), .ref (ad 37), .ref (ad 41), .ref (ad 45), .int (ti_b hi)])), (ad 1, .inl (E 5, 2, .inr (.inr (.inr (.inr (ti_o jh (fun j => j))))))), (jh 0, .inr (1, [.ref (ju 0), .ref (jv 0), .int (nI (xi.2.2 0))])), (ju 0, .inl (E 0, 6, .inl (ti_n (xi.1 0)))), (jv 0, .inl (E 0, 6, .inl (ti_n (xi.2.1 0)))), (jh 1, .inr (1, [.ref (ju 1), .ref (jv 1), .int (nI (xi.2.2 1))])), (ju 1, .inl (E 0, 6, .inl (ti_n (xi.1 1)))), (jv 1, .inl (E 0, 6, .inl (ti_n (xi.2.1 1)))), (ad 11, .inr (3, [.ref (ad 12), .ref (ad 13), .int (nI xd.2.2.1)])), (ad 12, .inl (E 5, 10, .inr (.inr (.inr (.inr (ti_o dh xd.1)))))), (ad 13, .inl (E 0, 10, .inl (ti_n xd.2.1))), (dh 0, .inr (1, [.ref (du 0), .ref (dv 0), .int (nI (xd.2.2.2.2.2 0))])), (du 0, .inl (E 0, 6, .inl (ti_n (xd.2.2.2.1 0)))), (dv 0, .inl (E 0, 6, .inl (ti_n (xd.2.2.2.2.1 0)))), (dh 1, .inr (1, [.ref (du 1), .ref (dv 1), .int (nI (xd.2.2.2.2.2 1))])), (du 1, .inl (E 0, 6, .inl (ti_n (xd.2.2.2.1 1)))), (dv 1, .inl (E 0, 6, .inl (ti_n (xd.2.2.2.2.1 1)))), (dh 2, .inr (1, [.ref (du 2), .ref (dv 2), .int (nI (xd.2.2.2.2.2 2))])), (du 2, .inl (E 0, 6, .inl (ti_n (xd.2.2.2.1 2)))), (dv 2, .inl (E 0, 6, .inl (ti_n (xd.2.2.2.2.1 2)))), (dh 3, .inr (1, [.ref (du 3), .ref (dv 3), .int (nI (xd.2.2.2.2.2 3))])), (du 3, .inl (E 0, 6, .inl (ti_n (xd.2.2.2.1 3)))), (dv 3, .inl (E 0, 6, .inl (ti_n (xd.2.2.2.2.1 3)))), (dh 4, .inr (1, [.ref (du 4), .ref (dv 4), .int (nI (xd.2.2.2.2.2 4))])), (du 4, .inl (E 0, 6, .inl (ti_n (xd.2.2.2.1 4)))), (dv 4, .inl (E 0, 6, .inl (ti_n (xd.2.2.2.2.1 4)))), (dh 5, .inr (1, [.ref (du 5), .ref (dv 5), .int (nI (xd.2.2.2.2.2 5))])), (du 5, .inl (E 0, 6, .inl (ti_n (xd.2.2.2.1 5)))), (dv 5, .inl (E 0, 6, .inl (ti_n (xd.2.2.2.2.1 5)))), (dh 6, .inr (1, [.ref (du 6), .ref (dv 6), .int (nI (xd.2.2.2.2.2 6))])), (du 6, .inl (E 0, 6, .inl (ti_n (xd.2.2.2.1 6)))), (dv 6, .inl (E 0, 6, .inl (ti_n (xd.2.2.2.2.1 6)))), (dh 7, .inr (1, [.ref (du 7), .ref (dv 7), .int (nI (xd.2.2.2.2.2 7))])), (du 7, .inl (E 0, 6, .inl (ti_n (xd.2.2.2.1 7)))), (dv 7, .inl (E 0, 6, .inl (ti_n (xd.2.2.2.2.1 7)))), (dh 8, .inr (1, [.ref (du 8), .ref (dv 8), .int (nI (xd.2.2.2.2.2 8))])), (du 8, .inl (E 0, 6, .inl (ti_n (xd.2.2.2.1 8)))), (dv 8, .inl (E 0, 6, .inl (ti_n (xd.2.2.2.2.1 8)))), (dh 9, .inr (1, [.ref (du 9), .ref (dv 9), .int (nI (xd.2.2.2.2.2 9))])), (du 9, .inl (E 0, 6, .inl (ti_n (xd.2.2.2.1 9)))), (dv 9, .inl (E 0, 6, .inl (ti_n (xd.2.2.2.2.1 9))))]

abbrev ti_wMJRD (E : Nat → ClassId) (ad dh du dv jh ju jv kh ku kv : Nat → Nat) (tx : Nat) (hi : Bool) (xi : ti_Ti) (xr : ti_Tr) (xd : ti_Td) : va_W := [(ad 0, .inr (0, [.ref (ad 1), .ref (ad 2), .ref (ad 5), .ref (ad 11), .ref (ad 14), .ref (ad 16), .ref (ad 18), .ref (ad 20), .ref (ad 22), .int (nI tx), .ref (ad 23), .ref (ad 27), .ref (ad 31), .ref (ad 35), .ref (ad 36), .ref (ad 37), .ref (ad 41), .ref (ad 45), .int (ti_b hi)])), (ad 1, .inl (E 5, 2, .inr (.inr (.inr (.inr (ti_o jh (fun j => j))))))), (jh 0, .inr (1, [.ref (ju 0), .ref (jv 0), .int (nI (xi.2.2 0))])), (ju 0, .inl (E 0, 6, .inl (ti_n (xi.1 0)))), (jv 0, .inl (E 0, 6, .inl (ti_n (xi.2.1 0)))), (jh 1, .inr (1, [.ref (ju 1), .ref (jv 1), .int (nI (xi.2.2 1))])), (ju 1, .inl (E 0, 6, .inl (ti_n (xi.1 1)))), (jv 1, .inl (E 0, 6, .inl (ti_n (xi.2.1 1)))), (ad 2, .inr (1, [.ref (ad 3), .ref (ad 4), .int (nI xr.2.2)])), (ad 3, .inl (E 0, 6, .inl (ti_n xr.1))), (ad 4, .inl (E 0, 6, .inl (ti_n xr.2.1))), (ad 11, .inr (3, [.ref (ad 12), .ref (ad 13), .int (nI xd.2.2.1)])), (ad 12, .inl (E 5, 10, .inr (.inr (.inr (.inr (ti_o dh xd.1)))))), (ad 13, .inl (E 0, 10, .inl (ti_n xd.2.1))), (dh 0, .inr (1, [.ref (du 0), .ref (dv 0), .int (nI (xd.2.2.2.2.2 0))])), (du 0, .inl (E 0, 6, .inl (ti_n (xd.2.2.2.1 0)))), (dv 0, .inl (E 0, 6, .inl (ti_n (xd.2.2.2.2.1 0)))), (dh 1, .inr (1, [.ref (du 1), .ref (dv 1), .int (nI (xd.2.2.2.2.2 1))])), (du 1, .inl (E 0, 6, .inl (ti_n (xd.2.2.2.1 1)))), (dv 1, .inl (E 0, 6, .inl (ti_n (xd.2.2.2.2.1 1)))), (dh 2, .inr (1, [.ref (du 2), .ref (dv 2), .int (nI (xd.2.2.2.2.2 2))])), (du 2, .inl (E 0, 6, .inl (ti_n (xd.2.2.2.1 2)))), (dv 2, .inl (E 0, 6, .inl (ti_n (xd.2.2.2.2.1 2)))), (dh 3, .inr (1, [.ref (du 3), .ref (dv 3), .int (nI (xd.2.2.2.2.2 3))])), (du 3, .inl (E 0, 6, .inl (ti_n (xd.2.2.2.1 3)))), (dv 3, .inl (E 0, 6, .inl (ti_n (xd.2.2.2.2.1 3)))), (dh 4, .inr (1, [.ref (du 4), .ref (dv 4), .int (nI (xd.2.2.2.2.2 4))])), (du 4, .inl (E 0, 6, .inl (ti_n (xd.2.2.2.1 4)))), (dv 4, .inl (E 0, 6, .inl (ti_n (xd.2.2.2.2.1 4)))), (dh 5, .inr (1, [.ref (du 5), .ref (dv 5), .int (nI (xd.2.2.2.2.2 5))])), (du 5, .inl (E 0, 6, .inl (ti_n (xd.2.2.2.1 5)))), (dv 5, .inl (E 0, 6, .inl (ti_n (xd.2.2.2.2.1 5)))), (dh 6, .inr (1, [.ref (du 6), .ref (dv 6), .int (nI (xd.2.2.2.2.2 6))])), (du 6, .inl (E 0, 6, .inl (ti_n (xd.2.2.2.1 6)))), (dv 6, .inl (E 0, 6, .inl (ti_n (xd.2.2.2.2.1 6)))), (dh 7, .inr (1, [.ref (du 7), .ref (dv 7), .int (nI (xd.2.2.2.2.2 7))])), (du 7, .inl (E 0, 6, .inl (ti_n (xd.2.2.2.1 7)))), (dv 7, .inl (E 0, 6, .inl (ti_n (xd.2.2.2.2.1 7)))), (dh 8, .inr (1, [.ref (du 8), .ref (dv 8), .int (nI (xd.2.2.2.2.2 8))])), (du 8, .inl (E 0, 6, .inl (ti_n (xd.2.2.2.1 8)))), (dv 8, .inl (E 0, 6, .inl (ti_n (xd.2.2.2.2.1 8)))), (dh 9, .inr (1, [.ref (du 9), .ref (dv 9), .int (nI (xd.2.2.2.2.2 9))])), (du 9, .inl (E 0, 6, .inl (ti_n (xd.2.2.2.1 9)))), (dv 9, .inl (E 0, 6, .inl (ti_n (xd.2.2.2.2.1 9))))]

abbrev ti_wMJRFD (E : Nat → ClassId) (ad dh du dv jh ju jv kh ku kv : Nat → Nat) (tx : Nat) (hi : Bool) (xi : ti_Ti) (xr : ti_Tr) (xf : ti_Tf) (xd : ti_Td) : va_W := [(ad 0, .inr (0, [.ref (ad 1), .ref (ad 2), .ref (ad 5), .ref (ad 11), .ref (ad 14), .ref (ad 16), .ref (ad 18), .ref (ad 20), .ref (ad 22), .int (nI tx), .ref (ad 23), .ref (ad 27), .ref (ad 31), .ref (ad 35), .ref (ad 36), .ref (ad 37), .ref (ad 41), .ref (ad 45), .int (ti_b hi)])), (ad 1, .inl (E 5, 2, .inr (.inr (.inr (.inr (ti_o jh (fun j => j))))))), (jh 0, .inr (1, [.ref (ju 0), .ref (jv 0), .int (nI (xi.2.2 0))])), (ju 0, .inl (E 0, 6, .inl (ti_n (xi.1 0)))), (jv 0, .inl (E 0, 6, .inl (ti_n (xi.2.1 0)))), (jh 1, .inr (1, [.ref (ju 1), .ref (jv 1), .int (nI (xi.2.2 1))])), (ju 1, .inl (E 0, 6, .inl (ti_n (xi.1 1)))), (jv 1, .inl (E 0, 6, .inl (ti_n (xi.2.1 1)))), (ad 2, .inr (1, [.ref (ad 3), .ref (ad 4), .int (nI xr.2.2)])), (ad 3, .inl (E 0, 6, .inl (ti_n xr.1))), (ad 4, .inl (E 0, 6, .inl (ti_n xr.2.1))), (ad 5, .inr (2, [xf.1, .ref (ad 6), .ref (ad 7), .ref (ad 8), .int (nI xf.2.2.2.2.1), .int (nI xf.2.2.2.2.2.1), .int (nI xf.2.2.2.2.2.2.1), .ref (ad 9), .ref (ad 10), .int (nI xf.2.2.2.2.2.2.2.2.2)])), (ad 6, .inl (E 0, 8, .inl (ti_n xf.2.1))), (ad 7, .inl (E 0, 8, .inl (ti_n xf.2.2.1))), (ad 8, .inl (E 0, 8, .inl (ti_n xf.2.2.2.1))), (ad 9, .inl (E 0, 100, .inl (ti_n xf.2.2.2.2.2.2.2.1))), (ad 10, .inl (E 0, 100, .inl (ti_n xf.2.2.2.2.2.2.2.2.1))), (ad 11, .inr (3, [.ref (ad 12), .ref (ad 13), .int (nI xd.2.2.1)])), (ad 12, .inl (E 5, 10, .inr (.inr (.inr (.inr (ti_o dh xd.1)))))), (ad 13, .inl (E 0, 10, .inl (ti_n xd.2.1))), (dh 0, .inr (1, [.ref (du 0), .ref (dv 0), .int (nI (xd.2.2.2.2.2 0))])), (du 0, .inl (E 0, 6, .inl (ti_n (xd.2.2.2.1 0)))), (dv 0, .inl (E 0, 6, .inl (ti_n (xd.2.2.2.2.1 0)))), (dh 1, .inr (1, [.ref (du 1), .ref (dv 1), .int (nI (xd.2.2.2.2.2 1))])), (du 1, .inl (E 0, 6, .inl (ti_n (xd.2.2.2.1 1)))), (dv 1, .inl (E 0, 6, .inl (ti_n (xd.2.2.2.2.1 1)))), (dh 2, .inr (1, [.ref (du 2), .ref (dv 2), .int (nI (xd.2.2.2.2.2 2))])), (du 2, .inl (E 0, 6, .inl (ti_n (xd.2.2.2.1 2)))), (dv 2, .inl (E 0, 6, .inl (ti_n (xd.2.2.2.2.1 2)))), (dh 3, .inr (1, [.ref (du 3), .ref (dv 3), .int (nI (xd.2.2.2.2.2 3))])), (du 3, .inl (E 0, 6, .inl (ti_n (xd.2.2.2.1 3)))), (dv 3, .inl (E 0, 6, .inl (ti_n (xd.2.2.2.2.1 3)))), (dh 4, .inr (1, [.ref (du 4), .ref (dv 4), .int (nI (xd.2.2.2.2.2 4))])), (du 4, .inl (E 0, 6, .inl (ti_n (xd.2.2.2.1 4)))), (dv 4, .inl (E 0, 6, .inl (ti_n (xd.2.2.2.2.1 4)))), (dh 5, .inr (1, [.ref (du 5), .ref (dv 5), .int (nI (xd.2.2.2.2.2 5))])), (du 5, .inl (E 0, 6, .inl (ti_n (xd.2.2.2.1 5)))), (dv 5, .inl (E 0, 6, .inl (ti_n (xd.2.2.2.2.1 5)))), (dh 6, .inr (1, [.ref (du 6), .ref (dv 6), .int (nI (xd.2.2.2.2.2 6))])), (du 6, .inl (E 0, 6, .inl (ti_n (xd.2.2.2.1 6)))), (dv 6, .inl (E 0, 6, .inl (ti_n (xd.2.2.2.2.1 6)))), (dh 7, .inr (1, [.ref (du 7), .ref (dv 7), .int (nI (xd.2.2.2.2.2 7))])), (du 7, .inl (E 0, 6, .inl (ti_n (xd.2.2.2.1 7)))), (dv 7, .inl (E 0, 6, .inl (ti_n (xd.2.2.2.2.1 7)))), (dh 8, .inr (1, [.ref (du 8), .ref (dv 8), .int (nI (xd.2.2.2.2.2 8))])), (du 8, .inl (E 0, 6, .inl (ti_n (xd.2.2.2.1 8)))), (dv 8, .inl (E 0, 6, .inl (ti_n (xd.2.2.2.2.1 8)))), (dh 9, .inr (1, [.ref (du 9), .ref (dv 9), .int (nI (xd.2.2.2.2.2 9))])), (du 9, .inl (E 0, 6, .inl (ti_n (xd.2.2.2.1 9)))), (dv 9, .inl (E 0, 6, .inl (ti_n (xd.2.2.2.2.1 9))))]

abbrev ti_wMX (E : Nat → ClassId) (ad dh du dv jh ju jv kh ku kv : Nat → Nat) (tx : Nat) (hi : Bool) (xt : Nat → Nat) : va_W := [(ad 0, .inr (0, [.ref (ad 1), .ref (ad 2), .ref (ad 5), .ref (ad 11), .ref (ad 14), .ref (ad 16), .ref (ad 18), .ref (ad 20), .ref (ad 22), .int (nI tx), .ref (ad 23), .ref (ad 27), .ref (ad 31), .ref (ad 35), .ref (ad 36), .ref (ad 37), .ref (ad 41), .ref (ad 45), .int (ti_b hi)])), (ad 22, .inl (E 1, 100, .inl (ti_n xt)))]

abbrev ti_wMJRF (E : Nat → ClassId) (ad dh du dv jh ju jv kh ku kv : Nat → Nat) (tx : Nat) (hi : Bool) (xi : ti_Ti) (xr : ti_Tr) (xf : ti_Tf) : va_W := [(ad 0, .inr (0, [.ref (ad 1), .ref (ad 2), .ref (ad 5), .ref (ad 11), .ref (ad 14), .ref (ad 16), .ref (ad 18), .ref (ad 20), .ref (ad 22), .int (nI tx), .ref (ad 23), .ref (ad 27), .ref (ad 31), .ref (ad 35), .ref (ad 36), .ref (ad 37), .ref (ad 41), .ref (ad 45), .int (ti_b hi)])), (ad 1, .inl (E 5, 2, .inr (.inr (.inr (.inr (ti_o jh (fun j => j))))))), (jh 0, .inr (1, [.ref (ju 0), .ref (jv 0), .int (nI (xi.2.2 0))])), (ju 0, .inl (E 0, 6, .inl (ti_n (xi.1 0)))), (jv 0, .inl (E 0, 6, .inl (ti_n (xi.2.1 0)))), (jh 1, .inr (1, [.ref (ju 1), .ref (jv 1), .int (nI (xi.2.2 1))])), (ju 1, .inl (E 0, 6, .inl (ti_n (xi.1 1)))), (jv 1, .inl (E 0, 6, .inl (ti_n (xi.2.1 1)))), (ad 2, .inr (1, [.ref (ad 3), .ref (ad 4), .int (nI xr.2.2)])), (ad 3, .inl (E 0, 6, .inl (ti_n xr.1))), (ad 4, .inl (E 0, 6, .inl (ti_n xr.2.1))), (ad 5, .inr (2, [xf.1, .ref (ad 6), .ref (ad 7), .ref (ad 8), .int (nI xf.2.2.2.2.1), .int (nI xf.2.2.2.2.2.1), .int (nI xf.2.2.2.2.2.2.1), .ref (ad 9), .ref (ad 10), .int (nI xf.2.2.2.2.2.2.2.2.2)])), (ad 6, .inl (E 0, 8, .inl (ti_n xf.2.1))), (ad 7, .inl (E 0, 8, .inl (ti_n xf.2.2.1))), (ad 8, .inl (E 0, 8, .inl (ti_n xf.2.2.2.1))), (ad 9, .inl (E 0, 100, .inl (ti_n xf.2.2.2.2.2.2.2.1))), (ad 10, .inl (E 0, 100, .inl (ti_n xf.2.2.2.2.2.2.2.2.1)))]

set_option maxHeartbeats 1000000 in
theorem met_X0_isGenerator (l : Launch) (D : va_G) (E : Nat → ClassId) (ad dh du dv jh ju jv kh ku kv : Nat → Nat) (tx : Nat) (hi : Bool) (xi : ti_Ti) (hxi : ti_Jok xi) (v k : Int32) : ti_MetP l D E yX0_isGenerator cX0_isGenerator 3 (some .boolean) 2 (ti_wMJ E ad dh du dv jh ju jv kh ku kv tx hi xi) [.ref (ad 0), .int v, .int k] (some (.int (ti_b (ti_bt v && ti_lt k (xi.2.2 (ti_cl v)))))) := by
  refine ti_pureZ (by decide) (Nat.le_of_ble_eq_true rfl) ?_
  intro p e s m below meth c H locs Q ls S hE hP hl hret
  have hx := S.1
  have hb := S.2.1
  have hown := S.2.2.2.1
  have hts := S.2.2.2.2
  have hK := hE.1
  have hl : lv_has ls 3 [(0, .ref (ad 0)), (1, .int v), (2, .int k)] := hl
  refine lv_iload_n hx hb dX0_isGenerator_0 rfl (lv_at hl 1 rfl) ?_
  refine ti_pS (As := [.int v]) (rest := []) (v := .int (ti_b (ti_bt v))) S hE hP [] (met_X0_isIdeal l D E v) rfl (lw_S q299 q300 q66 q301) 1 rfl (by decide +kernel) ⟨Nat.le_of_ble_eq_true rfl, Nat.le_of_ble_eq_true rfl⟩ hl.1 rfl (Nat.le_of_ble_eq_true rfl) ⟨Nat.le_refl _, Nat.le_refl _⟩ dX0_isGenerator_1 ?_
  refine tb_eq (tgt := 30) hx hb dX0_isGenerator_4 (by decide) (fun c4 => ?_) (fun c4 => ?_)
  · skip
    refine lv_iconst (v := nI 0) hx hb dX0_isGenerator_30 (by decide) ?_
    exact hret _ _ _ dX0_isGenerator_31 (by rw [c4]; rfl)
  · skip
    obtain ⟨i, hi2, rfl⟩ := ti_bt_nat c4
    rcases (show i = 0 ∨ i = 1 by omega) with rfl | rfl
    · skip
      refine lv_iload_n hx hb dX0_isGenerator_7 rfl (lv_at hl 2 rfl) ?_
      refine lv_iconst (v := nI 0) hx hb dX0_isGenerator_8 (by decide) ?_
      refine lv_aload_n hx hb dX0_isGenerator_9 rfl (lv_at hl 0 rfl) ?_
      refine va_get (v := .ref (ad 1)) hx hb hts in_X0 hown hK hP 0 rfl rfl 0 (by decide) (hts _ q237) (fun _ h => h) rfl dX0_isGenerator_10 ?_
      refine lv_iload_n hx hb dX0_isGenerator_13 rfl (lv_at hl 1 rfl) ?_
      refine tn_aald hx hb hK hP 1 5 rfl rfl (by omega) (by decide) dX0_isGenerator_14 ?_
      refine va_getN (v := .int (nI (xi.2.2 0))) hx hb hts in_X1 hown hK hP 2 rfl rfl 2 (by decide) (hE.use q117 rfl rfl) (fun _ h => h) rfl dX0_isGenerator_15 ?_
      refine lv_iconst (v := nI 1) hx hb dX0_isGenerator_18 (by decide) ?_
      refine lv_isub hx hb dX0_isGenerator_19 ?_
      refine ti_pS (As := [.int k, .int (nI 0), .int ((nI (xi.2.2 0)) - (nI 1))]) (rest := []) (v := .int (ti_b (ti_in k (nI 0) (((nI (xi.2.2 0)) - (nI 1)))))) S hE hP [] (met_X0_in l D E k (nI 0) (((nI (xi.2.2 0)) - (nI 1)))) rfl (lw_S q302 q303 q66 q304) 3 rfl (by decide +kernel) ⟨Nat.le_of_ble_eq_true rfl, Nat.le_of_ble_eq_true rfl⟩ hl.1 rfl (Nat.le_of_ble_eq_true rfl) ⟨Nat.le_refl _, Nat.le_refl _⟩ dX0_isGenerator_20 ?_
      refine tb_eq (tgt := 30) hx hb dX0_isGenerator_23 (by decide) (fun c23 => ?_) (fun c23 => ?_)
      · skip
        have h6 := hxi.2.2 0
        rw [ti_in_lt (by omega)] at c23
        refine lv_iconst (v := nI 0) hx hb dX0_isGenerator_30 (by decide) ?_
        exact hret _ _ _ dX0_isGenerator_31 (by rw [c4, ti_cl_nI (by omega), c23]; rfl)
      · skip
        have h6 := hxi.2.2 0
        rw [ti_in_lt (by omega)] at c23
        refine lv_iconst (v := nI 1) hx hb dX0_isGenerator_26 (by decide) ?_
        refine lv_goto (tgt := 31) hx hb dX0_isGenerator_27 (by decide) ?_
        exact hret _ _ _ dX0_isGenerator_31 (by rw [c4, ti_cl_nI (by omega), c23]; rfl)
    · skip
      refine lv_iload_n hx hb dX0_isGenerator_7 rfl (lv_at hl 2 rfl) ?_
      refine lv_iconst (v := nI 0) hx hb dX0_isGenerator_8 (by decide) ?_
      refine lv_aload_n hx hb dX0_isGenerator_9 rfl (lv_at hl 0 rfl) ?_
      refine va_get (v := .ref (ad 1)) hx hb hts in_X0 hown hK hP 0 rfl rfl 0 (by decide) (hts _ q237) (fun _ h => h) rfl dX0_isGenerator_10 ?_
      refine lv_iload_n hx hb dX0_isGenerator_13 rfl (lv_at hl 1 rfl) ?_
      refine tn_aald hx hb hK hP 1 5 rfl rfl (by omega) (by decide) dX0_isGenerator_14 ?_
      refine va_getN (v := .int (nI (xi.2.2 1))) hx hb hts in_X1 hown hK hP 5 rfl rfl 2 (by decide) (hE.use q117 rfl rfl) (fun _ h => h) rfl dX0_isGenerator_15 ?_
      refine lv_iconst (v := nI 1) hx hb dX0_isGenerator_18 (by decide) ?_
      refine lv_isub hx hb dX0_isGenerator_19 ?_
      refine ti_pS (As := [.int k, .int (nI 0), .int ((nI (xi.2.2 1)) - (nI 1))]) (rest := []) (v := .int (ti_b (ti_in k (nI 0) (((nI (xi.2.2 1)) - (nI 1)))))) S hE hP [] (met_X0_in l D E k (nI 0) (((nI (xi.2.2 1)) - (nI 1)))) rfl (lw_S q302 q303 q66 q304) 3 rfl (by decide +kernel) ⟨Nat.le_of_ble_eq_true rfl, Nat.le_of_ble_eq_true rfl⟩ hl.1 rfl (Nat.le_of_ble_eq_true rfl) ⟨Nat.le_refl _, Nat.le_refl _⟩ dX0_isGenerator_20 ?_
      refine tb_eq (tgt := 30) hx hb dX0_isGenerator_23 (by decide) (fun c23 => ?_) (fun c23 => ?_)
      · skip
        have h6 := hxi.2.2 1
        rw [ti_in_lt (by omega)] at c23
        refine lv_iconst (v := nI 0) hx hb dX0_isGenerator_30 (by decide) ?_
        exact hret _ _ _ dX0_isGenerator_31 (by rw [c4, ti_cl_nI (by omega), c23]; rfl)
      · skip
        have h6 := hxi.2.2 1
        rw [ti_in_lt (by omega)] at c23
        refine lv_iconst (v := nI 1) hx hb dX0_isGenerator_26 (by decide) ?_
        refine lv_goto (tgt := 31) hx hb dX0_isGenerator_27 (by decide) ?_
        exact hret _ _ _ dX0_isGenerator_31 (by rw [c4, ti_cl_nI (by omega), c23]; rfl)

set_option maxHeartbeats 1000000 in
theorem met_X0_generate (l : Launch) (D : va_G) (E : Nat → ClassId) (ad dh du dv jh ju jv kh ku kv : Nat → Nat) (tx : Nat) (hi : Bool) (xi : ti_Ti) (xd : ti_Td) (hxi : ti_Jok xi) (I : Nat → ti_GL) (hJ : ti_JI xi I) (hxd : ti_Dok xd) (DD : ti_DL) (hDD : ti_Dl xd = DD) (v a b : Int32) : ti_MetM (σ := ti_Ti × ti_Td) l D E yX0_generate cX0_generate 5 (some .int) 3 0 0 (ti_wMJD E ad dh du dv jh ju jv kh ku kv tx hi xi xd) [.ref (ad 0), .int v, .int a, .int b] (fun u => ti_wMJD E ad dh du dv jh ju jv kh ku kv tx hi u.1 u.2) (fun u => some (.int ((fun _ => (ti_Sgen I DD v a b).1) u))) (fun u => ti_JI u.1 (ti_Sgen I DD v a b).2.1 ∧ ti_Dl u.2 = (ti_Sgen I DD v a b).2.2 ∧ ti_Jok u.1 ∧ ti_Dok u.2) := by
  refine ti_mutI (σ := ti_Ti × ti_Td) (vi := fun _ => (ti_Sgen I DD v a b).1) (by decide) (Nat.le_of_ble_eq_true rfl) ?_
  intro p e s m below meth c H H0 A Q ls S hE hP hD hS hA hinit hl hret
  have hx := S.1
  have hb := S.2.1
  have hown := S.2.2.2.1
  have hts := S.2.2.2.2
  have hK := hE.1
  have hl : lv_has ls 5 [(0, .ref (ad 0)), (1, .int v), (2, .int a), (3, .int b)] := hl
  refine lv_iload_n hx hb dX0_generate_0 rfl (lv_at hl 1 rfl) ?_
  refine ti_pS (As := [.int v]) (rest := []) (v := .int (ti_b (ti_bt v))) S hE hP [] (met_X0_isIdeal l D E v) rfl (lw_S q299 q300 q66 q301) 1 rfl (by decide +kernel) ⟨Nat.le_of_ble_eq_true rfl, Nat.le_of_ble_eq_true rfl⟩ hl.1 rfl (Nat.le_of_ble_eq_true rfl) ⟨Nat.le_refl _, Nat.le_refl _⟩ dX0_generate_1 ?_
  refine tb_ne (tgt := 9) hx hb dX0_generate_4 (by decide) (fun c4 => ?_) (fun c4 => ?_)
  · skip
    obtain ⟨i, hi2, rfl⟩ := ti_bt_nat c4
    refine lv_iload_n hx hb dX0_generate_9 rfl (lv_at hl 2 rfl) ?_
    refine lv_iload_n hx hb dX0_generate_10 rfl (lv_at hl 3 rfl) ?_
    refine ti_pS (As := [.int a, .int b]) (rest := []) (v := .int (ti_b (ti_b9 a && ti_b9 b))) S hE hP [] (met_X0_isTerm l D E a b) rfl (lw_S q305 q306 q66 q307) 2 rfl (by decide +kernel) ⟨Nat.le_of_ble_eq_true rfl, Nat.le_of_ble_eq_true rfl⟩ hl.1 rfl (Nat.le_of_ble_eq_true rfl) ⟨Nat.le_refl _, Nat.le_refl _⟩ dX0_generate_11 ?_
    refine tb_ne (tgt := 20) hx hb dX0_generate_14 (by decide) (fun c14 => ?_) (fun c14 => ?_)
    · skip
      have hb9 : ti_b9 a = true ∧ ti_b9 b = true := by simpa using c14
      obtain ⟨a9, ha9, rfl⟩ := ti_b9_nat hb9.1
      obtain ⟨b9, hb99, rfl⟩ := ti_b9_nat hb9.2
      have hca : ti_cl (nI a9) = a9 := ti_cl_nI (by omega)
      have hcb : ti_cl (nI b9) = b9 := ti_cl_nI (by omega)
      rcases (show i = 0 ∨ i = 1 by omega) with rfl | rfl
      · skip
        refine lv_aload_n hx hb dX0_generate_20 rfl (lv_at hl 0 rfl) ?_
        refine va_get (v := .ref (ad 1)) hx hb hts in_X0 hown hK hP 0 rfl rfl 0 (by decide) (hts _ q237) (fun _ h => h) rfl dX0_generate_21 ?_
        refine lv_iload_n hx hb dX0_generate_24 rfl (lv_at hl 1 rfl) ?_
        refine tn_aald hx hb hK hP 1 5 rfl rfl (by omega) (by decide) dX0_generate_25 ?_
        refine lv_astore (lv' := [(4, .ref (jh 0)), (0, .ref (ad 0)), (1, .int (nI 0)), (2, .int (nI a9)), (3, .int (nI b9))]) hx hb dX0_generate_26 hl (by decide) rfl (fun ls hl => ?_)
        refine lv_aload hx hb dX0_generate_28 (lv_at hl 0 rfl) ?_
        refine lv_iload_n hx hb dX0_generate_30 rfl (lv_at hl 3 rfl) ?_
        refine lv_iload_n hx hb dX0_generate_31 rfl (lv_at hl 4 rfl) ?_
        refine ti_pV (As := [.int (nI a9), .int (nI b9)]) (rest := []) (v := .int (ti_px (ti_pl a9 b9 (ti_gr (xi.1 0) (xi.2.1 0) 0 (xi.2.2 0)) 0))) S hE hP [2, 3, 4] (met_X1_placeOf l D E (jh 0) (ju 0) (jv 0) (xi.1 0) (xi.2.1 0) (xi.2.2 0) (hxi.2.2 0) (hxi.1 0) (hxi.2.1 0) a9 b9 ha9 hb99) rfl (lw_V q308 q309 q310 q67 q311) 2 rfl 2 rfl rfl (by decide +kernel) ⟨Nat.le_of_ble_eq_true rfl, Nat.le_of_ble_eq_true rfl⟩ hl.1 rfl (Nat.le_of_ble_eq_true rfl) ⟨Nat.le_refl _, Nat.le_refl _⟩ dX0_generate_32 ?_
        refine lv_bipush (v := (-5)) hx hb dX0_generate_35 (by decide) ?_
        refine lv_icmp_eq (tgt := 43) hx hb dX0_generate_37 (by decide) (fun c37 => ?_) (fun c37 => ?_)
        · skip
          have hg := hJ 0 (by decide)
          have hlen := ti_JI_len hJ (show 0 < 2 by decide)
          have h6 := hxi.2.2 0
          have hci : ti_cl (nI 0) = 0 := ti_cl_nI (by decide)
          have hm := (ti_place5 (by rw [ti_gr_len]; omega)).mp c37
          rw [show (ti_gr (xi.1 0) (xi.2.1 0) 0 (xi.2.2 0)) = I 0 from hg] at hm
          refine lv_aload hx hb dX0_generate_43 (lv_at hl 0 rfl) ?_
          refine va_getN (v := .int (nI (xi.2.2 0))) hx hb hts in_X1 hown hK hP 2 rfl rfl 2 (by decide) (hE.use q117 rfl rfl) (fun _ h => h) rfl dX0_generate_45 ?_
          refine lv_bipush (v := nI 6) hx hb dX0_generate_48 (by decide) ?_
          refine tn_ne (tgt := 56) hx hb dX0_generate_50 (by decide) (by omega) (by omega) (fun c50 => ?_) (fun c50 => ?_)
          · skip
            refine lv_aload_n hx hb dX0_generate_56 rfl (lv_at hl 1 rfl) ?_
            refine va_get (v := .ref (ad 11)) hx hb hts in_X0 hown hK hP 0 rfl rfl 3 (by decide) (hts _ q240) (fun _ h => h) rfl dX0_generate_57 ?_
            refine lv_iload_n hx hb dX0_generate_60 rfl (lv_at hl 2 rfl) ?_
            refine lv_aload hx hb dX0_generate_61 (lv_at hl 0 rfl) ?_
            refine ti_mV (As := [.int (nI 0), .ref (jh 0)]) (rest := []) S hE hP hD hS hA [8, 9, 10, 11, 12, 13, 14, 15, 16, 17, 18, 19, 20, 21, 22, 23, 24, 25, 26, 27, 28, 29, 30, 31, 32, 33, 34, 35, 36, 37, 38, 39, 40, 2, 3, 4] rfl (met_X3_keeps l D E (ad 11) (ad 12) (ad 13) dh du dv xd.1 xd.2.1 xd.2.2.1 xd.2.2.2.1 xd.2.2.2.2.1 xd.2.2.2.2.2 (jh 0) (ju 0) (jv 0) (xi.1 0) (xi.2.1 0) (xi.2.2 0) 0 hxd (hxi.1 0) (hxi.2.1 0) (hxi.2.2 0) (by omega)) rfl (fun _ => rfl) (lw_V q312 q313 q314 q69 q315) 2 rfl 8 rfl rfl (by decide +kernel) ⟨Nat.le_of_ble_eq_true rfl, Nat.le_of_ble_eq_true rfl⟩ hl.1 rfl (Nat.le_of_ble_eq_true rfl) ⟨Nat.le_refl _, Nat.le_refl _⟩ dX0_generate_63 (fun ud H locs hu hP hD hS => ?_)
            obtain ⟨ud1, ud2, ud3⟩ := hu
            have hP : va_P D vwCl (ti_wMJD E ad dh du dv jh ju jv kh ku kv tx hi xi ud) H := ti_asP hP [.inl 0, .inl 1, .inr 33, .inr 34, .inr 35, .inl 5, .inl 6, .inl 7, .inr 0, .inr 1, .inr 2, .inr 3, .inr 4, .inr 5, .inr 6, .inr 7, .inr 8, .inr 9, .inr 10, .inr 11, .inr 12, .inr 13, .inr 14, .inr 15, .inr 16, .inr 17, .inr 18, .inr 19, .inr 20, .inr 21, .inr 22, .inr 23, .inr 24, .inr 25, .inr 26, .inr 27, .inr 28, .inr 29, .inr 30, .inr 31, .inr 32] rfl rfl rfl rfl
            have hD : va_D A (ti_wMJD E ad dh du dv jh ju jv kh ku kv tx hi xi ud) := ti_asD hD [.inl 0, .inl 1, .inr 33, .inr 34, .inr 35, .inl 5, .inl 6, .inl 7, .inr 0, .inr 1, .inr 2, .inr 3, .inr 4, .inr 5, .inr 6, .inr 7, .inr 8, .inr 9, .inr 10, .inr 11, .inr 12, .inr 13, .inr 14, .inr 15, .inr 16, .inr 17, .inr 18, .inr 19, .inr 20, .inr 21, .inr 22, .inr 23, .inr 24, .inr 25, .inr 26, .inr 27, .inr 28, .inr 29, .inr 30, .inr 31, .inr 32] rfl rfl rfl rfl
            refine W.eq (g2 := F0 m 66 ls []) rfl ?_
            refine lv_aload hx hb dX0_generate_66 (lv_at hl 0 rfl) ?_
            refine lv_iload_n hx hb dX0_generate_68 rfl (lv_at hl 3 rfl) ?_
            refine lv_iload_n hx hb dX0_generate_69 rfl (lv_at hl 4 rfl) ?_
            refine ti_mV (As := [.int (nI a9), .int (nI b9)]) (rest := []) S hE hP hD hS hA [2, 3, 4] rfl (met_X1_comes l D E (jh 0) (ju 0) (jv 0) (xi.1 0) (xi.2.1 0) (xi.2.2 0) (by omega) a9 b9) rfl (fun _ => rfl) (lw_V q323 q324 q325 q67 q326) 2 rfl 2 rfl rfl (by decide +kernel) ⟨Nat.le_of_ble_eq_true rfl, Nat.le_of_ble_eq_true rfl⟩ hl.1 rfl (Nat.le_of_ble_eq_true rfl) ⟨Nat.le_refl _, Nat.le_refl _⟩ dX0_generate_70 (fun _ H locs hu hP hD hS => ?_)
            have hP : va_P D vwCl (ti_wMJD E ad dh du dv jh ju jv kh ku kv tx hi (ti_j2 (va_up (xi.1 0) (xi.2.2 0) a9) (xi.1 1), ti_j2 (va_up (xi.2.1 0) (xi.2.2 0) b9) (xi.2.1 1), ti_j2 ((xi.2.2 0) + 1) (xi.2.2 1)) ud) H := ti_asP hP [.inl 0, .inl 1, .inr 0, .inr 1, .inr 2, .inl 5, .inl 6, .inl 7, .inl 8, .inl 9, .inl 10, .inl 11, .inl 12, .inl 13, .inl 14, .inl 15, .inl 16, .inl 17, .inl 18, .inl 19, .inl 20, .inl 21, .inl 22, .inl 23, .inl 24, .inl 25, .inl 26, .inl 27, .inl 28, .inl 29, .inl 30, .inl 31, .inl 32, .inl 33, .inl 34, .inl 35, .inl 36, .inl 37, .inl 38, .inl 39, .inl 40] rfl rfl rfl rfl
            have hD : va_D A (ti_wMJD E ad dh du dv jh ju jv kh ku kv tx hi (ti_j2 (va_up (xi.1 0) (xi.2.2 0) a9) (xi.1 1), ti_j2 (va_up (xi.2.1 0) (xi.2.2 0) b9) (xi.2.1 1), ti_j2 ((xi.2.2 0) + 1) (xi.2.2 1)) ud) := ti_asD hD [.inl 0, .inl 1, .inr 0, .inr 1, .inr 2, .inl 5, .inl 6, .inl 7, .inl 8, .inl 9, .inl 10, .inl 11, .inl 12, .inl 13, .inl 14, .inl 15, .inl 16, .inl 17, .inl 18, .inl 19, .inl 20, .inl 21, .inl 22, .inl 23, .inl 24, .inl 25, .inl 26, .inl 27, .inl 28, .inl 29, .inl 30, .inl 31, .inl 32, .inl 33, .inl 34, .inl 35, .inl 36, .inl 37, .inl 38, .inl 39, .inl 40] rfl rfl rfl rfl
            refine W.eq (g2 := F0 m 73 ls []) rfl ?_
            refine lv_aload hx hb dX0_generate_73 (lv_at hl 0 rfl) ?_
            refine va_getN (v := .int (nI ((xi.2.2 0) + 1))) hx hb hts in_X1 hown hK hP 2 rfl rfl 2 (by decide) (hE.use q117 rfl rfl) (fun _ h => h) rfl dX0_generate_75 ?_
            have hs : ti_Sgen I DD (nI 0) (nI a9) (nI b9) = (nI (xi.2.2 0 + 1), va_up I 0 (I 0 ++ [(a9, b9)]), ti_keep (0, I 0) DD) := by rw [ti_Sgen, if_neg (by rw [c4]; decide), if_neg (by rw [c14]; decide), hci, hca, hcb, if_neg hm, if_neg (by rw [hlen]; exact c50), hlen]
            exact hret (((ti_j2 (va_up (xi.1 0) (xi.2.2 0) a9) (xi.1 1), ti_j2 (va_up (xi.2.1 0) (xi.2.2 0) b9) (xi.2.1 1), ti_j2 ((xi.2.2 0) + 1) (xi.2.2 1)), ud)) _ _ _ _ _ _ _ dX0_generate_78 (by rw [hs]) (by rw [hs]; exact ⟨ti_JIu0 ((ti_gr_push _ _ _ _ _).trans (congrArg (· ++ [(a9, b9)]) hg)) (hJ 1 (by decide)), ud1.trans (ti_keep2 hg hDD), (ti_Jok2 ((ti_up_le (hxi.1 0) ha9)) (hxi.1 1) ((ti_up_le (hxi.2.1 0) hb99)) (hxi.2.1 1) (by omega) (hxi.2.2 1)), ud2⟩) hP hS (Nat.le_refl _) (Nat.le_refl _)
          · skip
            refine lv_bipush (v := (-4)) hx hb dX0_generate_53 (by decide) ?_
            have hs : ti_Sgen I DD (nI 0) (nI a9) (nI b9) = (-4, I, DD) := by rw [ti_Sgen, if_neg (by rw [c4]; decide), if_neg (by rw [c14]; decide), hci, hca, hcb, if_neg hm, if_pos (by rw [hlen]; exact c50)]
            exact hret (xi, xd) _ _ _ _ _ _ _ dX0_generate_55 (by rw [hs]) (by rw [hs]; exact ⟨hJ, hDD, hxi, hxd⟩) hP hS (Nat.le_refl _) (Nat.le_refl _)
        · skip
          have hg := hJ 0 (by decide)
          have hlen := ti_JI_len hJ (show 0 < 2 by decide)
          have h6 := hxi.2.2 0
          have hci : ti_cl (nI 0) = 0 := ti_cl_nI (by decide)
          have hm : (a9, b9) ∈ I 0 := by rw [← hg]; exact Classical.not_not.mp fun z => c37 ((ti_place5 (by rw [ti_gr_len]; omega)).mpr z)
          refine lv_bipush (v := (-3)) hx hb dX0_generate_40 (by decide) ?_
          have hs : ti_Sgen I DD (nI 0) (nI a9) (nI b9) = (-3, I, DD) := by rw [ti_Sgen, if_neg (by rw [c4]; decide), if_neg (by rw [c14]; decide), hci, hca, hcb, if_pos hm]
          exact hret (xi, xd) _ _ _ _ _ _ _ dX0_generate_42 (by rw [hs]) (by rw [hs]; exact ⟨hJ, hDD, hxi, hxd⟩) hP hS (Nat.le_refl _) (Nat.le_refl _)
      · skip
        refine lv_aload_n hx hb dX0_generate_20 rfl (lv_at hl 0 rfl) ?_
        refine va_get (v := .ref (ad 1)) hx hb hts in_X0 hown hK hP 0 rfl rfl 0 (by decide) (hts _ q237) (fun _ h => h) rfl dX0_generate_21 ?_
        refine lv_iload_n hx hb dX0_generate_24 rfl (lv_at hl 1 rfl) ?_
        refine tn_aald hx hb hK hP 1 5 rfl rfl (by omega) (by decide) dX0_generate_25 ?_
        refine lv_astore (lv' := [(4, .ref (jh 1)), (0, .ref (ad 0)), (1, .int (nI 1)), (2, .int (nI a9)), (3, .int (nI b9))]) hx hb dX0_generate_26 hl (by decide) rfl (fun ls hl => ?_)
        refine lv_aload hx hb dX0_generate_28 (lv_at hl 0 rfl) ?_
        refine lv_iload_n hx hb dX0_generate_30 rfl (lv_at hl 3 rfl) ?_
        refine lv_iload_n hx hb dX0_generate_31 rfl (lv_at hl 4 rfl) ?_
        refine ti_pV (As := [.int (nI a9), .int (nI b9)]) (rest := []) (v := .int (ti_px (ti_pl a9 b9 (ti_gr (xi.1 1) (xi.2.1 1) 0 (xi.2.2 1)) 0))) S hE hP [5, 6, 7] (met_X1_placeOf l D E (jh 1) (ju 1) (jv 1) (xi.1 1) (xi.2.1 1) (xi.2.2 1) (hxi.2.2 1) (hxi.1 1) (hxi.2.1 1) a9 b9 ha9 hb99) rfl (lw_V q308 q309 q310 q67 q311) 2 rfl 5 rfl rfl (by decide +kernel) ⟨Nat.le_of_ble_eq_true rfl, Nat.le_of_ble_eq_true rfl⟩ hl.1 rfl (Nat.le_of_ble_eq_true rfl) ⟨Nat.le_refl _, Nat.le_refl _⟩ dX0_generate_32 ?_
        refine lv_bipush (v := (-5)) hx hb dX0_generate_35 (by decide) ?_
        refine lv_icmp_eq (tgt := 43) hx hb dX0_generate_37 (by decide) (fun c37 => ?_) (fun c37 => ?_)
        · skip
          have hg := hJ 1 (by decide)
          have hlen := ti_JI_len hJ (show 1 < 2 by decide)
          have h6 := hxi.2.2 1
          have hci : ti_cl (nI 1) = 1 := ti_cl_nI (by decide)
          have hm := (ti_place5 (by rw [ti_gr_len]; omega)).mp c37
          rw [show (ti_gr (xi.1 1) (xi.2.1 1) 0 (xi.2.2 1)) = I 1 from hg] at hm
          refine lv_aload hx hb dX0_generate_43 (lv_at hl 0 rfl) ?_
          refine va_getN (v := .int (nI (xi.2.2 1))) hx hb hts in_X1 hown hK hP 5 rfl rfl 2 (by decide) (hE.use q117 rfl rfl) (fun _ h => h) rfl dX0_generate_45 ?_
          refine lv_bipush (v := nI 6) hx hb dX0_generate_48 (by decide) ?_
          refine tn_ne (tgt := 56) hx hb dX0_generate_50 (by decide) (by omega) (by omega) (fun c50 => ?_) (fun c50 => ?_)
          · skip
            refine lv_aload_n hx hb dX0_generate_56 rfl (lv_at hl 1 rfl) ?_
            refine va_get (v := .ref (ad 11)) hx hb hts in_X0 hown hK hP 0 rfl rfl 3 (by decide) (hts _ q240) (fun _ h => h) rfl dX0_generate_57 ?_
            refine lv_iload_n hx hb dX0_generate_60 rfl (lv_at hl 2 rfl) ?_
            refine lv_aload hx hb dX0_generate_61 (lv_at hl 0 rfl) ?_
            refine ti_mV (As := [.int (nI 1), .ref (jh 1)]) (rest := []) S hE hP hD hS hA [8, 9, 10, 11, 12, 13, 14, 15, 16, 17, 18, 19, 20, 21, 22, 23, 24, 25, 26, 27, 28, 29, 30, 31, 32, 33, 34, 35, 36, 37, 38, 39, 40, 5, 6, 7] rfl (met_X3_keeps l D E (ad 11) (ad 12) (ad 13) dh du dv xd.1 xd.2.1 xd.2.2.1 xd.2.2.2.1 xd.2.2.2.2.1 xd.2.2.2.2.2 (jh 1) (ju 1) (jv 1) (xi.1 1) (xi.2.1 1) (xi.2.2 1) 1 hxd (hxi.1 1) (hxi.2.1 1) (hxi.2.2 1) (by omega)) rfl (fun _ => rfl) (lw_V q312 q313 q314 q69 q315) 2 rfl 8 rfl rfl (by decide +kernel) ⟨Nat.le_of_ble_eq_true rfl, Nat.le_of_ble_eq_true rfl⟩ hl.1 rfl (Nat.le_of_ble_eq_true rfl) ⟨Nat.le_refl _, Nat.le_refl _⟩ dX0_generate_63 (fun ud H locs hu hP hD hS => ?_)
            obtain ⟨ud1, ud2, ud3⟩ := hu
            have hP : va_P D vwCl (ti_wMJD E ad dh du dv jh ju jv kh ku kv tx hi xi ud) H := ti_asP hP [.inl 0, .inl 1, .inl 2, .inl 3, .inl 4, .inr 33, .inr 34, .inr 35, .inr 0, .inr 1, .inr 2, .inr 3, .inr 4, .inr 5, .inr 6, .inr 7, .inr 8, .inr 9, .inr 10, .inr 11, .inr 12, .inr 13, .inr 14, .inr 15, .inr 16, .inr 17, .inr 18, .inr 19, .inr 20, .inr 21, .inr 22, .inr 23, .inr 24, .inr 25, .inr 26, .inr 27, .inr 28, .inr 29, .inr 30, .inr 31, .inr 32] rfl rfl rfl rfl
            have hD : va_D A (ti_wMJD E ad dh du dv jh ju jv kh ku kv tx hi xi ud) := ti_asD hD [.inl 0, .inl 1, .inl 2, .inl 3, .inl 4, .inr 33, .inr 34, .inr 35, .inr 0, .inr 1, .inr 2, .inr 3, .inr 4, .inr 5, .inr 6, .inr 7, .inr 8, .inr 9, .inr 10, .inr 11, .inr 12, .inr 13, .inr 14, .inr 15, .inr 16, .inr 17, .inr 18, .inr 19, .inr 20, .inr 21, .inr 22, .inr 23, .inr 24, .inr 25, .inr 26, .inr 27, .inr 28, .inr 29, .inr 30, .inr 31, .inr 32] rfl rfl rfl rfl
            refine W.eq (g2 := F0 m 66 ls []) rfl ?_
            refine lv_aload hx hb dX0_generate_66 (lv_at hl 0 rfl) ?_
            refine lv_iload_n hx hb dX0_generate_68 rfl (lv_at hl 3 rfl) ?_
            refine lv_iload_n hx hb dX0_generate_69 rfl (lv_at hl 4 rfl) ?_
            refine ti_mV (As := [.int (nI a9), .int (nI b9)]) (rest := []) S hE hP hD hS hA [5, 6, 7] rfl (met_X1_comes l D E (jh 1) (ju 1) (jv 1) (xi.1 1) (xi.2.1 1) (xi.2.2 1) (by omega) a9 b9) rfl (fun _ => rfl) (lw_V q323 q324 q325 q67 q326) 2 rfl 5 rfl rfl (by decide +kernel) ⟨Nat.le_of_ble_eq_true rfl, Nat.le_of_ble_eq_true rfl⟩ hl.1 rfl (Nat.le_of_ble_eq_true rfl) ⟨Nat.le_refl _, Nat.le_refl _⟩ dX0_generate_70 (fun _ H locs hu hP hD hS => ?_)
            have hP : va_P D vwCl (ti_wMJD E ad dh du dv jh ju jv kh ku kv tx hi (ti_j2 (xi.1 0) (va_up (xi.1 1) (xi.2.2 1) a9), ti_j2 (xi.2.1 0) (va_up (xi.2.1 1) (xi.2.2 1) b9), ti_j2 (xi.2.2 0) ((xi.2.2 1) + 1)) ud) H := ti_asP hP [.inl 0, .inl 1, .inl 2, .inl 3, .inl 4, .inr 0, .inr 1, .inr 2, .inl 8, .inl 9, .inl 10, .inl 11, .inl 12, .inl 13, .inl 14, .inl 15, .inl 16, .inl 17, .inl 18, .inl 19, .inl 20, .inl 21, .inl 22, .inl 23, .inl 24, .inl 25, .inl 26, .inl 27, .inl 28, .inl 29, .inl 30, .inl 31, .inl 32, .inl 33, .inl 34, .inl 35, .inl 36, .inl 37, .inl 38, .inl 39, .inl 40] rfl rfl rfl rfl
            have hD : va_D A (ti_wMJD E ad dh du dv jh ju jv kh ku kv tx hi (ti_j2 (xi.1 0) (va_up (xi.1 1) (xi.2.2 1) a9), ti_j2 (xi.2.1 0) (va_up (xi.2.1 1) (xi.2.2 1) b9), ti_j2 (xi.2.2 0) ((xi.2.2 1) + 1)) ud) := ti_asD hD [.inl 0, .inl 1, .inl 2, .inl 3, .inl 4, .inr 0, .inr 1, .inr 2, .inl 8, .inl 9, .inl 10, .inl 11, .inl 12, .inl 13, .inl 14, .inl 15, .inl 16, .inl 17, .inl 18, .inl 19, .inl 20, .inl 21, .inl 22, .inl 23, .inl 24, .inl 25, .inl 26, .inl 27, .inl 28, .inl 29, .inl 30, .inl 31, .inl 32, .inl 33, .inl 34, .inl 35, .inl 36, .inl 37, .inl 38, .inl 39, .inl 40] rfl rfl rfl rfl
            refine W.eq (g2 := F0 m 73 ls []) rfl ?_
            refine lv_aload hx hb dX0_generate_73 (lv_at hl 0 rfl) ?_
            refine va_getN (v := .int (nI ((xi.2.2 1) + 1))) hx hb hts in_X1 hown hK hP 5 rfl rfl 2 (by decide) (hE.use q117 rfl rfl) (fun _ h => h) rfl dX0_generate_75 ?_
            have hs : ti_Sgen I DD (nI 1) (nI a9) (nI b9) = (nI (xi.2.2 1 + 1), va_up I 1 (I 1 ++ [(a9, b9)]), ti_keep (1, I 1) DD) := by rw [ti_Sgen, if_neg (by rw [c4]; decide), if_neg (by rw [c14]; decide), hci, hca, hcb, if_neg hm, if_neg (by rw [hlen]; exact c50), hlen]
            exact hret (((ti_j2 (xi.1 0) (va_up (xi.1 1) (xi.2.2 1) a9), ti_j2 (xi.2.1 0) (va_up (xi.2.1 1) (xi.2.2 1) b9), ti_j2 (xi.2.2 0) ((xi.2.2 1) + 1)), ud)) _ _ _ _ _ _ _ dX0_generate_78 (by rw [hs]) (by rw [hs]; exact ⟨ti_JIu1 ((ti_gr_push _ _ _ _ _).trans (congrArg (· ++ [(a9, b9)]) hg)) (hJ 0 (by decide)), ud1.trans (ti_keep2 hg hDD), (ti_Jok2 (hxi.1 0) ((ti_up_le (hxi.1 1) ha9)) (hxi.2.1 0) ((ti_up_le (hxi.2.1 1) hb99)) (hxi.2.2 0) (by omega)), ud2⟩) hP hS (Nat.le_refl _) (Nat.le_refl _)
          · skip
            refine lv_bipush (v := (-4)) hx hb dX0_generate_53 (by decide) ?_
            have hs : ti_Sgen I DD (nI 1) (nI a9) (nI b9) = (-4, I, DD) := by rw [ti_Sgen, if_neg (by rw [c4]; decide), if_neg (by rw [c14]; decide), hci, hca, hcb, if_neg hm, if_pos (by rw [hlen]; exact c50)]
            exact hret (xi, xd) _ _ _ _ _ _ _ dX0_generate_55 (by rw [hs]) (by rw [hs]; exact ⟨hJ, hDD, hxi, hxd⟩) hP hS (Nat.le_refl _) (Nat.le_refl _)
        · skip
          have hg := hJ 1 (by decide)
          have hlen := ti_JI_len hJ (show 1 < 2 by decide)
          have h6 := hxi.2.2 1
          have hci : ti_cl (nI 1) = 1 := ti_cl_nI (by decide)
          have hm : (a9, b9) ∈ I 1 := by rw [← hg]; exact Classical.not_not.mp fun z => c37 ((ti_place5 (by rw [ti_gr_len]; omega)).mpr z)
          refine lv_bipush (v := (-3)) hx hb dX0_generate_40 (by decide) ?_
          have hs : ti_Sgen I DD (nI 1) (nI a9) (nI b9) = (-3, I, DD) := by rw [ti_Sgen, if_neg (by rw [c4]; decide), if_neg (by rw [c14]; decide), hci, hca, hcb, if_pos hm]
          exact hret (xi, xd) _ _ _ _ _ _ _ dX0_generate_42 (by rw [hs]) (by rw [hs]; exact ⟨hJ, hDD, hxi, hxd⟩) hP hS (Nat.le_refl _) (Nat.le_refl _)
    · skip
      refine lv_bipush (v := (-2)) hx hb dX0_generate_17 (by decide) ?_
      have hs : ti_Sgen I DD (nI i) a b = (-2, I, DD) := by rw [ti_Sgen, if_neg (by rw [c4]; decide), if_pos c14]
      exact hret (xi, xd) _ _ _ _ _ _ _ dX0_generate_19 (by rw [hs]) (by rw [hs]; exact ⟨hJ, hDD, hxi, hxd⟩) hP hS (Nat.le_refl _) (Nat.le_refl _)
  · skip
    refine lv_iconst (v := (-1)) hx hb dX0_generate_7 (by decide) ?_
    have hs : ti_Sgen I DD v a b = (-1, I, DD) := by simp [ti_Sgen, c4]
    exact hret (xi, xd) _ _ _ _ _ _ _ dX0_generate_8 (by rw [hs]) (by rw [hs]; exact ⟨hJ, hDD, hxi, hxd⟩) hP hS (Nat.le_refl _) (Nat.le_refl _)

set_option maxHeartbeats 1000000 in
theorem met_X0_drop (l : Launch) (D : va_G) (E : Nat → ClassId) (ad dh du dv jh ju jv kh ku kv : Nat → Nat) (tx : Nat) (hi : Bool) (xi : ti_Ti) (xd : ti_Td) (hxi : ti_Jok xi) (I : Nat → ti_GL) (hJ : ti_JI xi I) (hxd : ti_Dok xd) (DD : ti_DL) (hDD : ti_Dl xd = DD) (v k : Int32) : ti_MetM (σ := ti_Ti × ti_Td) l D E yX0_drop cX0_drop 3 (some .int) 3 0 0 (ti_wMJD E ad dh du dv jh ju jv kh ku kv tx hi xi xd) [.ref (ad 0), .int v, .int k] (fun u => ti_wMJD E ad dh du dv jh ju jv kh ku kv tx hi u.1 u.2) (fun u => some (.int ((fun _ => (ti_Sdrop I DD v k).1) u))) (fun u => ti_JI u.1 (ti_Sdrop I DD v k).2.1 ∧ ti_Dl u.2 = (ti_Sdrop I DD v k).2.2 ∧ ti_Jok u.1 ∧ ti_Dok u.2) := by
  refine ti_mutI (σ := ti_Ti × ti_Td) (vi := fun _ => (ti_Sdrop I DD v k).1) (by decide) (Nat.le_of_ble_eq_true rfl) ?_
  intro p e s m below meth c H H0 A Q ls S hE hP hD hS hA hinit hl hret
  have hx := S.1
  have hb := S.2.1
  have hown := S.2.2.2.1
  have hts := S.2.2.2.2
  have hK := hE.1
  have hl : lv_has ls 3 [(0, .ref (ad 0)), (1, .int v), (2, .int k)] := hl
  refine lv_aload_n hx hb dX0_drop_0 rfl (lv_at hl 0 rfl) ?_
  refine lv_iload_n hx hb dX0_drop_1 rfl (lv_at hl 1 rfl) ?_
  refine lv_iload_n hx hb dX0_drop_2 rfl (lv_at hl 2 rfl) ?_
  refine ti_pV (As := [.int v, .int k]) (rest := []) (v := .int (ti_b (ti_bt v && ti_lt k (xi.2.2 (ti_cl v))))) S hE hP [0, 1, 2, 3, 4, 5, 6, 7] (met_X0_isGenerator l D E ad dh du dv jh ju jv kh ku kv tx hi xi hxi v k) rfl (lw_V q331 q333 qs0 q66 q334) 2 rfl 0 rfl rfl (by decide +kernel) ⟨Nat.le_of_ble_eq_true rfl, Nat.le_of_ble_eq_true rfl⟩ hl.1 rfl (Nat.le_of_ble_eq_true rfl) ⟨Nat.le_refl _, Nat.le_refl _⟩ dX0_drop_3 ?_
  refine tb_ne (tgt := 11) hx hb dX0_drop_6 (by decide) (fun c6 => ?_) (fun c6 => ?_)
  · skip
    have hq : ti_bt v = true ∧ ti_lt k (xi.2.2 (ti_cl v)) = true := by simpa using c6
    obtain ⟨i, hi2, rfl⟩ := ti_bt_nat hq.1
    have hci : ti_cl (nI i) = i := ti_cl_nI (by omega)
    rw [hci] at hq
    obtain ⟨k9, hk9, rfl⟩ := ti_lt_nat hq.2
    have h6 := hxi.2.2 i
    have hck : ti_cl (nI k9) = k9 := ti_cl_nI (by omega)
    have hg := hJ i hi2
    have hlen := ti_JI_len hJ hi2
    have hq2 : (ti_bt (nI i) && ti_lt (nI k9) (I i).length) = true := by rw [hlen, hq.1, hq.2]; rfl
    rcases (show i = 0 ∨ i = 1 by omega) with rfl | rfl
    · skip
      refine lv_aload_n hx hb dX0_drop_11 rfl (lv_at hl 0 rfl) ?_
      refine va_get (v := .ref (ad 11)) hx hb hts in_X0 hown hK hP 0 rfl rfl 3 (by decide) (hts _ q240) (fun _ h => h) rfl dX0_drop_12 ?_
      refine lv_iload_n hx hb dX0_drop_15 rfl (lv_at hl 1 rfl) ?_
      refine lv_aload_n hx hb dX0_drop_16 rfl (lv_at hl 0 rfl) ?_
      refine va_get (v := .ref (ad 1)) hx hb hts in_X0 hown hK hP 0 rfl rfl 0 (by decide) (hts _ q237) (fun _ h => h) rfl dX0_drop_17 ?_
      refine lv_iload_n hx hb dX0_drop_20 rfl (lv_at hl 1 rfl) ?_
      refine tn_aald hx hb hK hP 1 5 rfl rfl (by omega) (by decide) dX0_drop_21 ?_
      refine ti_mV (As := [.int (nI 0), .ref (jh 0)]) (rest := []) S hE hP hD hS hA [8, 9, 10, 11, 12, 13, 14, 15, 16, 17, 18, 19, 20, 21, 22, 23, 24, 25, 26, 27, 28, 29, 30, 31, 32, 33, 34, 35, 36, 37, 38, 39, 40, 2, 3, 4] rfl (met_X3_keeps l D E (ad 11) (ad 12) (ad 13) dh du dv xd.1 xd.2.1 xd.2.2.1 xd.2.2.2.1 xd.2.2.2.2.1 xd.2.2.2.2.2 (jh 0) (ju 0) (jv 0) (xi.1 0) (xi.2.1 0) (xi.2.2 0) 0 hxd (hxi.1 0) (hxi.2.1 0) (hxi.2.2 0) (by omega)) rfl (fun _ => rfl) (lw_V q312 q313 q314 q69 q315) 2 rfl 8 rfl rfl (by decide +kernel) ⟨Nat.le_of_ble_eq_true rfl, Nat.le_of_ble_eq_true rfl⟩ hl.1 rfl (Nat.le_of_ble_eq_true rfl) ⟨Nat.le_refl _, Nat.le_refl _⟩ dX0_drop_22 (fun ud H locs hu hP hD hS => ?_)
      obtain ⟨ud1, ud2, ud3⟩ := hu
      have hP : va_P D vwCl (ti_wMJD E ad dh du dv jh ju jv kh ku kv tx hi xi ud) H := ti_asP hP [.inl 0, .inl 1, .inr 33, .inr 34, .inr 35, .inl 5, .inl 6, .inl 7, .inr 0, .inr 1, .inr 2, .inr 3, .inr 4, .inr 5, .inr 6, .inr 7, .inr 8, .inr 9, .inr 10, .inr 11, .inr 12, .inr 13, .inr 14, .inr 15, .inr 16, .inr 17, .inr 18, .inr 19, .inr 20, .inr 21, .inr 22, .inr 23, .inr 24, .inr 25, .inr 26, .inr 27, .inr 28, .inr 29, .inr 30, .inr 31, .inr 32] rfl rfl rfl rfl
      have hD : va_D A (ti_wMJD E ad dh du dv jh ju jv kh ku kv tx hi xi ud) := ti_asD hD [.inl 0, .inl 1, .inr 33, .inr 34, .inr 35, .inl 5, .inl 6, .inl 7, .inr 0, .inr 1, .inr 2, .inr 3, .inr 4, .inr 5, .inr 6, .inr 7, .inr 8, .inr 9, .inr 10, .inr 11, .inr 12, .inr 13, .inr 14, .inr 15, .inr 16, .inr 17, .inr 18, .inr 19, .inr 20, .inr 21, .inr 22, .inr 23, .inr 24, .inr 25, .inr 26, .inr 27, .inr 28, .inr 29, .inr 30, .inr 31, .inr 32] rfl rfl rfl rfl
      refine W.eq (g2 := F0 m 25 ls []) rfl ?_
      refine lv_aload_n hx hb dX0_drop_25 rfl (lv_at hl 0 rfl) ?_
      refine va_get (v := .ref (ad 1)) hx hb hts in_X0 hown hK hP 0 rfl rfl 0 (by decide) (hts _ q237) (fun _ h => h) rfl dX0_drop_26 ?_
      refine lv_iload_n hx hb dX0_drop_29 rfl (lv_at hl 1 rfl) ?_
      refine tn_aald hx hb hK hP 1 5 rfl rfl (by omega) (by decide) dX0_drop_30 ?_
      refine lv_iload_n hx hb dX0_drop_31 rfl (lv_at hl 2 rfl) ?_
      refine ti_mV (As := [.int (nI k9)]) (rest := []) S hE hP hD hS hA [2, 3, 4] rfl (met_X1_goes l D E (jh 0) (ju 0) (jv 0) (xi.1 0) (xi.2.1 0) (xi.2.2 0) (hxi.2.2 0) k9 (by omega)) rfl (fun _ => rfl) (lw_V q335 q336 q337 q67 q338) 1 rfl 2 rfl rfl (by decide +kernel) ⟨Nat.le_of_ble_eq_true rfl, Nat.le_of_ble_eq_true rfl⟩ hl.1 rfl (Nat.le_of_ble_eq_true rfl) ⟨Nat.le_refl _, Nat.le_refl _⟩ dX0_drop_32 (fun _ H locs hu hP hD hS => ?_)
      have hP : va_P D vwCl (ti_wMJD E ad dh du dv jh ju jv kh ku kv tx hi (ti_j2 (ti_sh k9 ((xi.2.2 0) - 1) (xi.1 0)) (xi.1 1), ti_j2 (ti_sh k9 ((xi.2.2 0) - 1) (xi.2.1 0)) (xi.2.1 1), ti_j2 ((xi.2.2 0) - 1) (xi.2.2 1)) ud) H := ti_asP hP [.inl 0, .inl 1, .inr 0, .inr 1, .inr 2, .inl 5, .inl 6, .inl 7, .inl 8, .inl 9, .inl 10, .inl 11, .inl 12, .inl 13, .inl 14, .inl 15, .inl 16, .inl 17, .inl 18, .inl 19, .inl 20, .inl 21, .inl 22, .inl 23, .inl 24, .inl 25, .inl 26, .inl 27, .inl 28, .inl 29, .inl 30, .inl 31, .inl 32, .inl 33, .inl 34, .inl 35, .inl 36, .inl 37, .inl 38, .inl 39, .inl 40] rfl rfl rfl rfl
      have hD : va_D A (ti_wMJD E ad dh du dv jh ju jv kh ku kv tx hi (ti_j2 (ti_sh k9 ((xi.2.2 0) - 1) (xi.1 0)) (xi.1 1), ti_j2 (ti_sh k9 ((xi.2.2 0) - 1) (xi.2.1 0)) (xi.2.1 1), ti_j2 ((xi.2.2 0) - 1) (xi.2.2 1)) ud) := ti_asD hD [.inl 0, .inl 1, .inr 0, .inr 1, .inr 2, .inl 5, .inl 6, .inl 7, .inl 8, .inl 9, .inl 10, .inl 11, .inl 12, .inl 13, .inl 14, .inl 15, .inl 16, .inl 17, .inl 18, .inl 19, .inl 20, .inl 21, .inl 22, .inl 23, .inl 24, .inl 25, .inl 26, .inl 27, .inl 28, .inl 29, .inl 30, .inl 31, .inl 32, .inl 33, .inl 34, .inl 35, .inl 36, .inl 37, .inl 38, .inl 39, .inl 40] rfl rfl rfl rfl
      refine W.eq (g2 := F0 m 35 ls []) rfl ?_
      refine lv_aload_n hx hb dX0_drop_35 rfl (lv_at hl 0 rfl) ?_
      refine va_get (v := .ref (ad 1)) hx hb hts in_X0 hown hK hP 0 rfl rfl 0 (by decide) (hts _ q237) (fun _ h => h) rfl dX0_drop_36 ?_
      refine lv_iload_n hx hb dX0_drop_39 rfl (lv_at hl 1 rfl) ?_
      refine tn_aald hx hb hK hP 1 5 rfl rfl (by omega) (by decide) dX0_drop_40 ?_
      refine va_getN (v := .int (nI ((xi.2.2 0) - 1))) hx hb hts in_X1 hown hK hP 2 rfl rfl 2 (by decide) (hE.use q117 rfl rfl) (fun _ h => h) rfl dX0_drop_41 ?_
      have hs : ti_Sdrop I DD (nI 0) (nI k9) = (nI (xi.2.2 0 - 1), va_up I 0 ((I 0).eraseIdx k9), ti_keep (0, I 0) DD) := by rw [ti_Sdrop, hci, if_neg (by rw [hq2]; decide), hck, hlen]
      exact hret (((ti_j2 (ti_sh k9 ((xi.2.2 0) - 1) (xi.1 0)) (xi.1 1), ti_j2 (ti_sh k9 ((xi.2.2 0) - 1) (xi.2.1 0)) (xi.2.1 1), ti_j2 ((xi.2.2 0) - 1) (xi.2.2 1)), ud)) _ _ _ _ _ _ _ dX0_drop_44 (by rw [hs]) (by rw [hs]; exact ⟨ti_JIu0 ((ti_sh_gr hk9 _ _).trans (congrArg (fun z => List.eraseIdx z k9) hg)) (hJ 1 (by decide)), ud1.trans (ti_keep2 hg hDD), (ti_Jok2 ((ti_sh_le (hxi.1 0))) (hxi.1 1) ((ti_sh_le (hxi.2.1 0))) (hxi.2.1 1) (by omega) (hxi.2.2 1)), ud2⟩) hP hS (Nat.le_refl _) (Nat.le_refl _)
    · skip
      refine lv_aload_n hx hb dX0_drop_11 rfl (lv_at hl 0 rfl) ?_
      refine va_get (v := .ref (ad 11)) hx hb hts in_X0 hown hK hP 0 rfl rfl 3 (by decide) (hts _ q240) (fun _ h => h) rfl dX0_drop_12 ?_
      refine lv_iload_n hx hb dX0_drop_15 rfl (lv_at hl 1 rfl) ?_
      refine lv_aload_n hx hb dX0_drop_16 rfl (lv_at hl 0 rfl) ?_
      refine va_get (v := .ref (ad 1)) hx hb hts in_X0 hown hK hP 0 rfl rfl 0 (by decide) (hts _ q237) (fun _ h => h) rfl dX0_drop_17 ?_
      refine lv_iload_n hx hb dX0_drop_20 rfl (lv_at hl 1 rfl) ?_
      refine tn_aald hx hb hK hP 1 5 rfl rfl (by omega) (by decide) dX0_drop_21 ?_
      refine ti_mV (As := [.int (nI 1), .ref (jh 1)]) (rest := []) S hE hP hD hS hA [8, 9, 10, 11, 12, 13, 14, 15, 16, 17, 18, 19, 20, 21, 22, 23, 24, 25, 26, 27, 28, 29, 30, 31, 32, 33, 34, 35, 36, 37, 38, 39, 40, 5, 6, 7] rfl (met_X3_keeps l D E (ad 11) (ad 12) (ad 13) dh du dv xd.1 xd.2.1 xd.2.2.1 xd.2.2.2.1 xd.2.2.2.2.1 xd.2.2.2.2.2 (jh 1) (ju 1) (jv 1) (xi.1 1) (xi.2.1 1) (xi.2.2 1) 1 hxd (hxi.1 1) (hxi.2.1 1) (hxi.2.2 1) (by omega)) rfl (fun _ => rfl) (lw_V q312 q313 q314 q69 q315) 2 rfl 8 rfl rfl (by decide +kernel) ⟨Nat.le_of_ble_eq_true rfl, Nat.le_of_ble_eq_true rfl⟩ hl.1 rfl (Nat.le_of_ble_eq_true rfl) ⟨Nat.le_refl _, Nat.le_refl _⟩ dX0_drop_22 (fun ud H locs hu hP hD hS => ?_)
      obtain ⟨ud1, ud2, ud3⟩ := hu
      have hP : va_P D vwCl (ti_wMJD E ad dh du dv jh ju jv kh ku kv tx hi xi ud) H := ti_asP hP [.inl 0, .inl 1, .inl 2, .inl 3, .inl 4, .inr 33, .inr 34, .inr 35, .inr 0, .inr 1, .inr 2, .inr 3, .inr 4, .inr 5, .inr 6, .inr 7, .inr 8, .inr 9, .inr 10, .inr 11, .inr 12, .inr 13, .inr 14, .inr 15, .inr 16, .inr 17, .inr 18, .inr 19, .inr 20, .inr 21, .inr 22, .inr 23, .inr 24, .inr 25, .inr 26, .inr 27, .inr 28, .inr 29, .inr 30, .inr 31, .inr 32] rfl rfl rfl rfl
      have hD : va_D A (ti_wMJD E ad dh du dv jh ju jv kh ku kv tx hi xi ud) := ti_asD hD [.inl 0, .inl 1, .inl 2, .inl 3, .inl 4, .inr 33, .inr 34, .inr 35, .inr 0, .inr 1, .inr 2, .inr 3, .inr 4, .inr 5, .inr 6, .inr 7, .inr 8, .inr 9, .inr 10, .inr 11, .inr 12, .inr 13, .inr 14, .inr 15, .inr 16, .inr 17, .inr 18, .inr 19, .inr 20, .inr 21, .inr 22, .inr 23, .inr 24, .inr 25, .inr 26, .inr 27, .inr 28, .inr 29, .inr 30, .inr 31, .inr 32] rfl rfl rfl rfl
      refine W.eq (g2 := F0 m 25 ls []) rfl ?_
      refine lv_aload_n hx hb dX0_drop_25 rfl (lv_at hl 0 rfl) ?_
      refine va_get (v := .ref (ad 1)) hx hb hts in_X0 hown hK hP 0 rfl rfl 0 (by decide) (hts _ q237) (fun _ h => h) rfl dX0_drop_26 ?_
      refine lv_iload_n hx hb dX0_drop_29 rfl (lv_at hl 1 rfl) ?_
      refine tn_aald hx hb hK hP 1 5 rfl rfl (by omega) (by decide) dX0_drop_30 ?_
      refine lv_iload_n hx hb dX0_drop_31 rfl (lv_at hl 2 rfl) ?_
      refine ti_mV (As := [.int (nI k9)]) (rest := []) S hE hP hD hS hA [5, 6, 7] rfl (met_X1_goes l D E (jh 1) (ju 1) (jv 1) (xi.1 1) (xi.2.1 1) (xi.2.2 1) (hxi.2.2 1) k9 (by omega)) rfl (fun _ => rfl) (lw_V q335 q336 q337 q67 q338) 1 rfl 5 rfl rfl (by decide +kernel) ⟨Nat.le_of_ble_eq_true rfl, Nat.le_of_ble_eq_true rfl⟩ hl.1 rfl (Nat.le_of_ble_eq_true rfl) ⟨Nat.le_refl _, Nat.le_refl _⟩ dX0_drop_32 (fun _ H locs hu hP hD hS => ?_)
      have hP : va_P D vwCl (ti_wMJD E ad dh du dv jh ju jv kh ku kv tx hi (ti_j2 (xi.1 0) (ti_sh k9 ((xi.2.2 1) - 1) (xi.1 1)), ti_j2 (xi.2.1 0) (ti_sh k9 ((xi.2.2 1) - 1) (xi.2.1 1)), ti_j2 (xi.2.2 0) ((xi.2.2 1) - 1)) ud) H := ti_asP hP [.inl 0, .inl 1, .inl 2, .inl 3, .inl 4, .inr 0, .inr 1, .inr 2, .inl 8, .inl 9, .inl 10, .inl 11, .inl 12, .inl 13, .inl 14, .inl 15, .inl 16, .inl 17, .inl 18, .inl 19, .inl 20, .inl 21, .inl 22, .inl 23, .inl 24, .inl 25, .inl 26, .inl 27, .inl 28, .inl 29, .inl 30, .inl 31, .inl 32, .inl 33, .inl 34, .inl 35, .inl 36, .inl 37, .inl 38, .inl 39, .inl 40] rfl rfl rfl rfl
      have hD : va_D A (ti_wMJD E ad dh du dv jh ju jv kh ku kv tx hi (ti_j2 (xi.1 0) (ti_sh k9 ((xi.2.2 1) - 1) (xi.1 1)), ti_j2 (xi.2.1 0) (ti_sh k9 ((xi.2.2 1) - 1) (xi.2.1 1)), ti_j2 (xi.2.2 0) ((xi.2.2 1) - 1)) ud) := ti_asD hD [.inl 0, .inl 1, .inl 2, .inl 3, .inl 4, .inr 0, .inr 1, .inr 2, .inl 8, .inl 9, .inl 10, .inl 11, .inl 12, .inl 13, .inl 14, .inl 15, .inl 16, .inl 17, .inl 18, .inl 19, .inl 20, .inl 21, .inl 22, .inl 23, .inl 24, .inl 25, .inl 26, .inl 27, .inl 28, .inl 29, .inl 30, .inl 31, .inl 32, .inl 33, .inl 34, .inl 35, .inl 36, .inl 37, .inl 38, .inl 39, .inl 40] rfl rfl rfl rfl
      refine W.eq (g2 := F0 m 35 ls []) rfl ?_
      refine lv_aload_n hx hb dX0_drop_35 rfl (lv_at hl 0 rfl) ?_
      refine va_get (v := .ref (ad 1)) hx hb hts in_X0 hown hK hP 0 rfl rfl 0 (by decide) (hts _ q237) (fun _ h => h) rfl dX0_drop_36 ?_
      refine lv_iload_n hx hb dX0_drop_39 rfl (lv_at hl 1 rfl) ?_
      refine tn_aald hx hb hK hP 1 5 rfl rfl (by omega) (by decide) dX0_drop_40 ?_
      refine va_getN (v := .int (nI ((xi.2.2 1) - 1))) hx hb hts in_X1 hown hK hP 5 rfl rfl 2 (by decide) (hE.use q117 rfl rfl) (fun _ h => h) rfl dX0_drop_41 ?_
      have hs : ti_Sdrop I DD (nI 1) (nI k9) = (nI (xi.2.2 1 - 1), va_up I 1 ((I 1).eraseIdx k9), ti_keep (1, I 1) DD) := by rw [ti_Sdrop, hci, if_neg (by rw [hq2]; decide), hck, hlen]
      exact hret (((ti_j2 (xi.1 0) (ti_sh k9 ((xi.2.2 1) - 1) (xi.1 1)), ti_j2 (xi.2.1 0) (ti_sh k9 ((xi.2.2 1) - 1) (xi.2.1 1)), ti_j2 (xi.2.2 0) ((xi.2.2 1) - 1)), ud)) _ _ _ _ _ _ _ dX0_drop_44 (by rw [hs]) (by rw [hs]; exact ⟨ti_JIu1 ((ti_sh_gr hk9 _ _).trans (congrArg (fun z => List.eraseIdx z k9) hg)) (hJ 0 (by decide)), ud1.trans (ti_keep2 hg hDD), (ti_Jok2 (hxi.1 0) ((ti_sh_le (hxi.1 1))) (hxi.2.1 0) ((ti_sh_le (hxi.2.1 1))) (hxi.2.2 0) (by omega)), ud2⟩) hP hS (Nat.le_refl _) (Nat.le_refl _)
  · skip
    have hq : (ti_bt v && ti_lt k (I (ti_cl v)).length) = false := by
      cases hv : ti_bt v with
      | false => rfl
      | true =>
        obtain ⟨i, hi2, rfl⟩ := ti_bt_nat hv
        have hci : ti_cl (nI i) = i := ti_cl_nI (by omega)
        rw [hv, hci] at c6
        rw [hci, ti_JI_len hJ hi2]
        exact c6
    refine lv_iconst (v := (-1)) hx hb dX0_drop_9 (by decide) ?_
    have hs : ti_Sdrop I DD v k = (-1, I, DD) := by rw [ti_Sdrop, if_pos hq]
    exact hret (xi, xd) _ _ _ _ _ _ _ dX0_drop_10 (by rw [hs]) (by rw [hs]; exact ⟨hJ, hDD, hxi, hxd⟩) hP hS (Nat.le_refl _) (Nat.le_refl _)

set_option maxHeartbeats 1000000 in
theorem met_X0_clear (l : Launch) (D : va_G) (E : Nat → ClassId) (ad dh du dv jh ju jv kh ku kv : Nat → Nat) (tx : Nat) (hi : Bool) (xi : ti_Ti) (xd : ti_Td) (hxi : ti_Jok xi) (I : Nat → ti_GL) (hJ : ti_JI xi I) (hxd : ti_Dok xd) (DD : ti_DL) (hDD : ti_Dl xd = DD) (v : Int32) : ti_MetM (σ := ti_Ti × ti_Td) l D E yX0_clear cX0_clear 3 (some .int) 3 0 0 (ti_wMJD E ad dh du dv jh ju jv kh ku kv tx hi xi xd) [.ref (ad 0), .int v] (fun u => ti_wMJD E ad dh du dv jh ju jv kh ku kv tx hi u.1 u.2) (fun u => some (.int ((fun _ => (ti_Sclear I DD v).1) u))) (fun u => ti_JI u.1 (ti_Sclear I DD v).2.1 ∧ ti_Dl u.2 = (ti_Sclear I DD v).2.2 ∧ ti_Jok u.1 ∧ ti_Dok u.2) := by
  refine ti_mutI (σ := ti_Ti × ti_Td) (vi := fun _ => (ti_Sclear I DD v).1) (by decide) (Nat.le_of_ble_eq_true rfl) ?_
  intro p e s m below meth c H H0 A Q ls S hE hP hD hS hA hinit hl hret
  have hx := S.1
  have hb := S.2.1
  have hown := S.2.2.2.1
  have hts := S.2.2.2.2
  have hK := hE.1
  have hl : lv_has ls 3 [(0, .ref (ad 0)), (1, .int v)] := hl
  refine lv_iload_n hx hb dX0_clear_0 rfl (lv_at hl 1 rfl) ?_
  refine ti_pS (As := [.int v]) (rest := []) (v := .int (ti_b (ti_bt v))) S hE hP [] (met_X0_isIdeal l D E v) rfl (lw_S q299 q300 q66 q301) 1 rfl (by decide +kernel) ⟨Nat.le_of_ble_eq_true rfl, Nat.le_of_ble_eq_true rfl⟩ hl.1 rfl (Nat.le_of_ble_eq_true rfl) ⟨Nat.le_refl _, Nat.le_refl _⟩ dX0_clear_1 ?_
  refine tb_ne (tgt := 9) hx hb dX0_clear_4 (by decide) (fun c4 => ?_) (fun c4 => ?_)
  · skip
    obtain ⟨i, hi2, rfl⟩ := ti_bt_nat c4
    rcases (show i = 0 ∨ i = 1 by omega) with rfl | rfl
    · skip
      have hg := hJ 0 (by decide)
      have hlen := ti_JI_len hJ (show 0 < 2 by decide)
      have h6 := hxi.2.2 0
      have hci : ti_cl (nI 0) = 0 := ti_cl_nI (by decide)
      refine lv_aload_n hx hb dX0_clear_9 rfl (lv_at hl 0 rfl) ?_
      refine va_get (v := .ref (ad 1)) hx hb hts in_X0 hown hK hP 0 rfl rfl 0 (by decide) (hts _ q237) (fun _ h => h) rfl dX0_clear_10 ?_
      refine lv_iload_n hx hb dX0_clear_13 rfl (lv_at hl 1 rfl) ?_
      refine tn_aald hx hb hK hP 1 5 rfl rfl (by omega) (by decide) dX0_clear_14 ?_
      refine va_getN (v := .int (nI (xi.2.2 0))) hx hb hts in_X1 hown hK hP 2 rfl rfl 2 (by decide) (hE.use q117 rfl rfl) (fun _ h => h) rfl dX0_clear_15 ?_
      refine lv_istore_n (lv' := [(2, .int (nI (xi.2.2 0))), (0, .ref (ad 0)), (1, .int (nI 0))]) hx hb dX0_clear_18 rfl hl (by decide) rfl (fun ls hl => ?_)
      refine lv_iload_n hx hb dX0_clear_19 rfl (lv_at hl 0 rfl) ?_
      refine tn_if_ne (tgt := 26) hx hb dX0_clear_20 (by decide) (by omega) (fun c20 => ?_) (fun c20 => ?_)
      · skip
        refine lv_aload_n hx hb dX0_clear_26 rfl (lv_at hl 1 rfl) ?_
        refine va_get (v := .ref (ad 11)) hx hb hts in_X0 hown hK hP 0 rfl rfl 3 (by decide) (hts _ q240) (fun _ h => h) rfl dX0_clear_27 ?_
        refine lv_iload_n hx hb dX0_clear_30 rfl (lv_at hl 2 rfl) ?_
        refine lv_aload_n hx hb dX0_clear_31 rfl (lv_at hl 1 rfl) ?_
        refine va_get (v := .ref (ad 1)) hx hb hts in_X0 hown hK hP 0 rfl rfl 0 (by decide) (hts _ q237) (fun _ h => h) rfl dX0_clear_32 ?_
        refine lv_iload_n hx hb dX0_clear_35 rfl (lv_at hl 2 rfl) ?_
        refine tn_aald hx hb hK hP 1 5 rfl rfl (by omega) (by decide) dX0_clear_36 ?_
        refine ti_mV (As := [.int (nI 0), .ref (jh 0)]) (rest := []) S hE hP hD hS hA [8, 9, 10, 11, 12, 13, 14, 15, 16, 17, 18, 19, 20, 21, 22, 23, 24, 25, 26, 27, 28, 29, 30, 31, 32, 33, 34, 35, 36, 37, 38, 39, 40, 2, 3, 4] rfl (met_X3_keeps l D E (ad 11) (ad 12) (ad 13) dh du dv xd.1 xd.2.1 xd.2.2.1 xd.2.2.2.1 xd.2.2.2.2.1 xd.2.2.2.2.2 (jh 0) (ju 0) (jv 0) (xi.1 0) (xi.2.1 0) (xi.2.2 0) 0 hxd (hxi.1 0) (hxi.2.1 0) (hxi.2.2 0) (by omega)) rfl (fun _ => rfl) (lw_V q312 q313 q314 q69 q315) 2 rfl 8 rfl rfl (by decide +kernel) ⟨Nat.le_of_ble_eq_true rfl, Nat.le_of_ble_eq_true rfl⟩ hl.1 rfl (Nat.le_of_ble_eq_true rfl) ⟨Nat.le_refl _, Nat.le_refl _⟩ dX0_clear_37 (fun ud H locs hu hP hD hS => ?_)
        obtain ⟨ud1, ud2, ud3⟩ := hu
        have hP : va_P D vwCl (ti_wMJD E ad dh du dv jh ju jv kh ku kv tx hi xi ud) H := ti_asP hP [.inl 0, .inl 1, .inr 33, .inr 34, .inr 35, .inl 5, .inl 6, .inl 7, .inr 0, .inr 1, .inr 2, .inr 3, .inr 4, .inr 5, .inr 6, .inr 7, .inr 8, .inr 9, .inr 10, .inr 11, .inr 12, .inr 13, .inr 14, .inr 15, .inr 16, .inr 17, .inr 18, .inr 19, .inr 20, .inr 21, .inr 22, .inr 23, .inr 24, .inr 25, .inr 26, .inr 27, .inr 28, .inr 29, .inr 30, .inr 31, .inr 32] rfl rfl rfl rfl
        have hD : va_D A (ti_wMJD E ad dh du dv jh ju jv kh ku kv tx hi xi ud) := ti_asD hD [.inl 0, .inl 1, .inr 33, .inr 34, .inr 35, .inl 5, .inl 6, .inl 7, .inr 0, .inr 1, .inr 2, .inr 3, .inr 4, .inr 5, .inr 6, .inr 7, .inr 8, .inr 9, .inr 10, .inr 11, .inr 12, .inr 13, .inr 14, .inr 15, .inr 16, .inr 17, .inr 18, .inr 19, .inr 20, .inr 21, .inr 22, .inr 23, .inr 24, .inr 25, .inr 26, .inr 27, .inr 28, .inr 29, .inr 30, .inr 31, .inr 32] rfl rfl rfl rfl
        refine W.eq (g2 := F0 m 40 ls []) rfl ?_
        refine lv_aload_n hx hb dX0_clear_40 rfl (lv_at hl 1 rfl) ?_
        refine va_get (v := .ref (ad 1)) hx hb hts in_X0 hown hK hP 0 rfl rfl 0 (by decide) (hts _ q237) (fun _ h => h) rfl dX0_clear_41 ?_
        refine lv_iload_n hx hb dX0_clear_44 rfl (lv_at hl 2 rfl) ?_
        refine tn_aald hx hb hK hP 1 5 rfl rfl (by omega) (by decide) dX0_clear_45 ?_
        refine lv_iconst (v := nI 0) hx hb dX0_clear_46 (by decide) ?_
        refine va_putN (ty := .int) hx hb hts in_X1 tyX1 tyX1_ok nmX1 hown hK hP hD hS 2 rfl rfl 2 (by decide) (hE.use q117 rfl rfl) (fun _ h => h) rfl rfl rfl rfl (Nat.le_of_ble_eq_true rfl) dX0_clear_47 (fun H locs hP hD hS => ?_)
        have hP : va_P D vwCl (ti_wMJD E ad dh du dv jh ju jv kh ku kv tx hi (ti_j2 (xi.1 0) (xi.1 1), ti_j2 (xi.2.1 0) (xi.2.1 1), ti_j2 0 (xi.2.2 1)) ud) H := hP
        have hD : va_D A (ti_wMJD E ad dh du dv jh ju jv kh ku kv tx hi (ti_j2 (xi.1 0) (xi.1 1), ti_j2 (xi.2.1 0) (xi.2.1 1), ti_j2 0 (xi.2.2 1)) ud) := hD
        refine lv_iload_n hx hb dX0_clear_50 rfl (lv_at hl 0 rfl) ?_
        have hs : ti_Sclear I DD (nI 0) = (nI (xi.2.2 0), va_up I 0 [], ti_keep (0, I 0) DD) := by rw [ti_Sclear, if_neg (by rw [c4]; decide), hci, if_neg (by rw [hlen]; exact c20), hlen]
        exact hret (((ti_j2 (xi.1 0) (xi.1 1), ti_j2 (xi.2.1 0) (xi.2.1 1), ti_j2 0 (xi.2.2 1)), ud)) _ _ _ _ _ _ _ dX0_clear_51 (by rw [hs]) (by rw [hs]; exact ⟨ti_JIu0 (ti_gr_0 _ _ _) (hJ 1 (by decide)), ud1.trans (ti_keep2 hg hDD), (ti_Jok2 (hxi.1 0) (hxi.1 1) (hxi.2.1 0) (hxi.2.1 1) (by decide) (hxi.2.2 1)), ud2⟩) hP hS (Nat.le_refl _) (Nat.le_refl _)
      · skip
        refine lv_bipush (v := (-3)) hx hb dX0_clear_23 (by decide) ?_
        have hs : ti_Sclear I DD (nI 0) = (-3, I, DD) := by rw [ti_Sclear, if_neg (by rw [c4]; decide), hci, if_pos (by rw [hlen]; exact c20)]
        exact hret (xi, xd) _ _ _ _ _ _ _ dX0_clear_25 (by rw [hs]) (by rw [hs]; exact ⟨hJ, hDD, hxi, hxd⟩) hP hS (Nat.le_refl _) (Nat.le_refl _)
    · skip
      have hg := hJ 1 (by decide)
      have hlen := ti_JI_len hJ (show 1 < 2 by decide)
      have h6 := hxi.2.2 1
      have hci : ti_cl (nI 1) = 1 := ti_cl_nI (by decide)
      refine lv_aload_n hx hb dX0_clear_9 rfl (lv_at hl 0 rfl) ?_
      refine va_get (v := .ref (ad 1)) hx hb hts in_X0 hown hK hP 0 rfl rfl 0 (by decide) (hts _ q237) (fun _ h => h) rfl dX0_clear_10 ?_
      refine lv_iload_n hx hb dX0_clear_13 rfl (lv_at hl 1 rfl) ?_
      refine tn_aald hx hb hK hP 1 5 rfl rfl (by omega) (by decide) dX0_clear_14 ?_
      refine va_getN (v := .int (nI (xi.2.2 1))) hx hb hts in_X1 hown hK hP 5 rfl rfl 2 (by decide) (hE.use q117 rfl rfl) (fun _ h => h) rfl dX0_clear_15 ?_
      refine lv_istore_n (lv' := [(2, .int (nI (xi.2.2 1))), (0, .ref (ad 0)), (1, .int (nI 1))]) hx hb dX0_clear_18 rfl hl (by decide) rfl (fun ls hl => ?_)
      refine lv_iload_n hx hb dX0_clear_19 rfl (lv_at hl 0 rfl) ?_
      refine tn_if_ne (tgt := 26) hx hb dX0_clear_20 (by decide) (by omega) (fun c20 => ?_) (fun c20 => ?_)
      · skip
        refine lv_aload_n hx hb dX0_clear_26 rfl (lv_at hl 1 rfl) ?_
        refine va_get (v := .ref (ad 11)) hx hb hts in_X0 hown hK hP 0 rfl rfl 3 (by decide) (hts _ q240) (fun _ h => h) rfl dX0_clear_27 ?_
        refine lv_iload_n hx hb dX0_clear_30 rfl (lv_at hl 2 rfl) ?_
        refine lv_aload_n hx hb dX0_clear_31 rfl (lv_at hl 1 rfl) ?_
        refine va_get (v := .ref (ad 1)) hx hb hts in_X0 hown hK hP 0 rfl rfl 0 (by decide) (hts _ q237) (fun _ h => h) rfl dX0_clear_32 ?_
        refine lv_iload_n hx hb dX0_clear_35 rfl (lv_at hl 2 rfl) ?_
        refine tn_aald hx hb hK hP 1 5 rfl rfl (by omega) (by decide) dX0_clear_36 ?_
        refine ti_mV (As := [.int (nI 1), .ref (jh 1)]) (rest := []) S hE hP hD hS hA [8, 9, 10, 11, 12, 13, 14, 15, 16, 17, 18, 19, 20, 21, 22, 23, 24, 25, 26, 27, 28, 29, 30, 31, 32, 33, 34, 35, 36, 37, 38, 39, 40, 5, 6, 7] rfl (met_X3_keeps l D E (ad 11) (ad 12) (ad 13) dh du dv xd.1 xd.2.1 xd.2.2.1 xd.2.2.2.1 xd.2.2.2.2.1 xd.2.2.2.2.2 (jh 1) (ju 1) (jv 1) (xi.1 1) (xi.2.1 1) (xi.2.2 1) 1 hxd (hxi.1 1) (hxi.2.1 1) (hxi.2.2 1) (by omega)) rfl (fun _ => rfl) (lw_V q312 q313 q314 q69 q315) 2 rfl 8 rfl rfl (by decide +kernel) ⟨Nat.le_of_ble_eq_true rfl, Nat.le_of_ble_eq_true rfl⟩ hl.1 rfl (Nat.le_of_ble_eq_true rfl) ⟨Nat.le_refl _, Nat.le_refl _⟩ dX0_clear_37 (fun ud H locs hu hP hD hS => ?_)
        obtain ⟨ud1, ud2, ud3⟩ := hu
        have hP : va_P D vwCl (ti_wMJD E ad dh du dv jh ju jv kh ku kv tx hi xi ud) H := ti_asP hP [.inl 0, .inl 1, .inl 2, .inl 3, .inl 4, .inr 33, .inr 34, .inr 35, .inr 0, .inr 1, .inr 2, .inr 3, .inr 4, .inr 5, .inr 6, .inr 7, .inr 8, .inr 9, .inr 10, .inr 11, .inr 12, .inr 13, .inr 14, .inr 15, .inr 16, .inr 17, .inr 18, .inr 19, .inr 20, .inr 21, .inr 22, .inr 23, .inr 24, .inr 25, .inr 26, .inr 27, .inr 28, .inr 29, .inr 30, .inr 31, .inr 32] rfl rfl rfl rfl
        have hD : va_D A (ti_wMJD E ad dh du dv jh ju jv kh ku kv tx hi xi ud) := ti_asD hD [.inl 0, .inl 1, .inl 2, .inl 3, .inl 4, .inr 33, .inr 34, .inr 35, .inr 0, .inr 1, .inr 2, .inr 3, .inr 4, .inr 5, .inr 6, .inr 7, .inr 8, .inr 9, .inr 10, .inr 11, .inr 12, .inr 13, .inr 14, .inr 15, .inr 16, .inr 17, .inr 18, .inr 19, .inr 20, .inr 21, .inr 22, .inr 23, .inr 24, .inr 25, .inr 26, .inr 27, .inr 28, .inr 29, .inr 30, .inr 31, .inr 32] rfl rfl rfl rfl
        refine W.eq (g2 := F0 m 40 ls []) rfl ?_
        refine lv_aload_n hx hb dX0_clear_40 rfl (lv_at hl 1 rfl) ?_
        refine va_get (v := .ref (ad 1)) hx hb hts in_X0 hown hK hP 0 rfl rfl 0 (by decide) (hts _ q237) (fun _ h => h) rfl dX0_clear_41 ?_
        refine lv_iload_n hx hb dX0_clear_44 rfl (lv_at hl 2 rfl) ?_
        refine tn_aald hx hb hK hP 1 5 rfl rfl (by omega) (by decide) dX0_clear_45 ?_
        refine lv_iconst (v := nI 0) hx hb dX0_clear_46 (by decide) ?_
        refine va_putN (ty := .int) hx hb hts in_X1 tyX1 tyX1_ok nmX1 hown hK hP hD hS 5 rfl rfl 2 (by decide) (hE.use q117 rfl rfl) (fun _ h => h) rfl rfl rfl rfl (Nat.le_of_ble_eq_true rfl) dX0_clear_47 (fun H locs hP hD hS => ?_)
        have hP : va_P D vwCl (ti_wMJD E ad dh du dv jh ju jv kh ku kv tx hi (ti_j2 (xi.1 0) (xi.1 1), ti_j2 (xi.2.1 0) (xi.2.1 1), ti_j2 (xi.2.2 0) 0) ud) H := hP
        have hD : va_D A (ti_wMJD E ad dh du dv jh ju jv kh ku kv tx hi (ti_j2 (xi.1 0) (xi.1 1), ti_j2 (xi.2.1 0) (xi.2.1 1), ti_j2 (xi.2.2 0) 0) ud) := hD
        refine lv_iload_n hx hb dX0_clear_50 rfl (lv_at hl 0 rfl) ?_
        have hs : ti_Sclear I DD (nI 1) = (nI (xi.2.2 1), va_up I 1 [], ti_keep (1, I 1) DD) := by rw [ti_Sclear, if_neg (by rw [c4]; decide), hci, if_neg (by rw [hlen]; exact c20), hlen]
        exact hret (((ti_j2 (xi.1 0) (xi.1 1), ti_j2 (xi.2.1 0) (xi.2.1 1), ti_j2 (xi.2.2 0) 0), ud)) _ _ _ _ _ _ _ dX0_clear_51 (by rw [hs]) (by rw [hs]; exact ⟨ti_JIu1 (ti_gr_0 _ _ _) (hJ 0 (by decide)), ud1.trans (ti_keep2 hg hDD), (ti_Jok2 (hxi.1 0) (hxi.1 1) (hxi.2.1 0) (hxi.2.1 1) (hxi.2.2 0) (by decide)), ud2⟩) hP hS (Nat.le_refl _) (Nat.le_refl _)
      · skip
        refine lv_bipush (v := (-3)) hx hb dX0_clear_23 (by decide) ?_
        have hs : ti_Sclear I DD (nI 1) = (-3, I, DD) := by rw [ti_Sclear, if_neg (by rw [c4]; decide), hci, if_pos (by rw [hlen]; exact c20)]
        exact hret (xi, xd) _ _ _ _ _ _ _ dX0_clear_25 (by rw [hs]) (by rw [hs]; exact ⟨hJ, hDD, hxi, hxd⟩) hP hS (Nat.le_refl _) (Nat.le_refl _)
  · skip
    refine lv_iconst (v := (-1)) hx hb dX0_clear_7 (by decide) ?_
    have hs : ti_Sclear I DD v = (-1, I, DD) := by rw [ti_Sclear, if_pos c4]
    exact hret (xi, xd) _ _ _ _ _ _ _ dX0_clear_8 (by rw [hs]) (by rw [hs]; exact ⟨hJ, hDD, hxi, hxd⟩) hP hS (Nat.le_refl _) (Nat.le_refl _)
