/-! deeds: ten kept ideals at fixed addresses; the array 'were' tells their order (printed by p_dspec.py) -/
set_option maxRecDepth 100000
def ti_o (hI p : Nat → Nat) : Nat → Option Nat := fun j => some (hI (p j))
theorem ti_o_up (hI p : Nat → Nat) (k q : Nat) : va_up (ti_o hI p) k (some (hI q)) = ti_o hI (va_up p k q) := by
  funext j
  by_cases h : j = k
  · simp [va_up, ti_o, h]
  · simp [va_up, ti_o, h]
abbrev ti_wD (E : Nat → ClassId) (d0 d1 d2 : Nat) (hI uI vI : Nat → Nat) (pm wh : Nat → Nat) (many : Nat) (FA FB : Nat → Nat → Nat) (NN : Nat → Nat) : va_W := [(d0, .inr (3, [.ref d1, .ref d2, .int (nI many)])), (d1, .inl (E 5, 10, .inr (.inr (.inr (.inr (ti_o hI pm)))))), (d2, .inl (E 0, 10, .inl (ti_n wh))), (hI 0, .inr (1, [.ref (uI 0), .ref (vI 0), .int (nI (NN 0))])), (uI 0, .inl (E 0, 6, .inl (ti_n (FA 0)))), (vI 0, .inl (E 0, 6, .inl (ti_n (FB 0)))), (hI 1, .inr (1, [.ref (uI 1), .ref (vI 1), .int (nI (NN 1))])), (uI 1, .inl (E 0, 6, .inl (ti_n (FA 1)))), (vI 1, .inl (E 0, 6, .inl (ti_n (FB 1)))), (hI 2, .inr (1, [.ref (uI 2), .ref (vI 2), .int (nI (NN 2))])), (uI 2, .inl (E 0, 6, .inl (ti_n (FA 2)))), (vI 2, .inl (E 0, 6, .inl (ti_n (FB 2)))), (hI 3, .inr (1, [.ref (uI 3), .ref (vI 3), .int (nI (NN 3))])), (uI 3, .inl (E 0, 6, .inl (ti_n (FA 3)))), (vI 3, .inl (E 0, 6, .inl (ti_n (FB 3)))), (hI 4, .inr (1, [.ref (uI 4), .ref (vI 4), .int (nI (NN 4))])), (uI 4, .inl (E 0, 6, .inl (ti_n (FA 4)))), (vI 4, .inl (E 0, 6, .inl (ti_n (FB 4)))), (hI 5, .inr (1, [.ref (uI 5), .ref (vI 5), .int (nI (NN 5))])), (uI 5, .inl (E 0, 6, .inl (ti_n (FA 5)))), (vI 5, .inl (E 0, 6, .inl (ti_n (FB 5)))), (hI 6, .inr (1, [.ref (uI 6), .ref (vI 6), .int (nI (NN 6))])), (uI 6, .inl (E 0, 6, .inl (ti_n (FA 6)))), (vI 6, .inl (E 0, 6, .inl (ti_n (FB 6)))), (hI 7, .inr (1, [.ref (uI 7), .ref (vI 7), .int (nI (NN 7))])), (uI 7, .inl (E 0, 6, .inl (ti_n (FA 7)))), (vI 7, .inl (E 0, 6, .inl (ti_n (FB 7)))), (hI 8, .inr (1, [.ref (uI 8), .ref (vI 8), .int (nI (NN 8))])), (uI 8, .inl (E 0, 6, .inl (ti_n (FA 8)))), (vI 8, .inl (E 0, 6, .inl (ti_n (FB 8)))), (hI 9, .inr (1, [.ref (uI 9), .ref (vI 9), .int (nI (NN 9))])), (uI 9, .inl (E 0, 6, .inl (ti_n (FA 9)))), (vI 9, .inl (E 0, 6, .inl (ti_n (FB 9))))]

section TDA
variable {p : Program} {l : Launch} {e : Env} {R : Room} {s : State} {m : MethodId} {args : Array Value} {below : List Frame} {meth : Method} {c : Code} {H : Heap} {locs : List Loc} {cells slots : Nat} {Q : State → Prop}
variable {cc : ByteArray} {pc : Nat} {ls : Array Slot} {rest : List Value} {D : va_G} {A : Nat → Prop} {a : Nat} {tys : List (ClassId × FieldType)} {ws : va_W} {H0 : Heap} {hI P : Nat → Nat}
theorem tn_aald (hx : p.tables.exec = Jvm.exec) (hb : c.code = cc) (hK : va_K D vwCl tys s) (hP : va_P D vwCl ws H) (q0 t0 : Nat) {cA : ClassId} {C : String} {n i : Nat} (ha : ws[q0]? = some (a, .inl (cA, n, .inr (.inr (.inr (.inr (ti_o hI P))))))) (ht : tys[t0]? = some (cA, .object C)) (hi : i < n) (hn : n < 2 ^ 31) (hd : decode cc pc = .ok (.aaload, 1))
    (k : W p l e R s m args below meth c H locs cells slots Q (F0 m (pc + 1) ls (.ref (hI (P i)) :: rest))) : W p l e R s m args below meth c H locs cells slots Q (F0 m pc ls (.int (nI i) :: .ref a :: rest)) :=
  va_aldq hx hb hK hP q0 t0 ha ht (vp_in_nI hi hn) hd (by rw [nI_clamp (Nat.lt_trans hi hn)]; exact k)
theorem tn_aast (hx : p.tables.exec = Jvm.exec) (hb : c.code = cc) (hK : va_K D vwCl tys s) (hP : va_P D vwCl ws H) (hD : va_D A ws) (hS : va_S A H0 H locs) (q0 t0 qk ci : Nat) {cA : ClassId} {r : vw_C} {n i v : Nat} {vs : List Value} (ha : ws[q0]? = some (a, .inl (cA, n, .inr (.inr (.inr (.inr (ti_o hI P))))))) (ht : tys[t0]? = some (cA, .object r.1)) (hv : ws[qk]? = some (hI v, .inr (ci, vs))) (hc : vwCl[ci]? = some r) (hi : i < n) (hn : n < 2 ^ 31) (hd : decode cc pc = .ok (.aastore, 1))
    (k : ∀ (H : Heap) (locs : List Loc), va_P D vwCl (ws.set q0 (a, .inl (cA, n, .inr (.inr (.inr (.inr (ti_o hI (va_up P i v)))))))) H → va_D A (ws.set q0 (a, .inl (cA, n, .inr (.inr (.inr (.inr (ti_o hI (va_up P i v)))))))) → va_S A H0 H locs → W p l e R s m args below meth c H locs cells slots Q (F0 m (pc + 1) ls rest)) : W p l e R s m args below meth c H locs cells slots Q (F0 m pc ls (.ref (hI v) :: .int (nI i) :: .ref a :: rest)) :=
  va_astq hx hb hK hP hD hS q0 t0 qk ci ha ht hv hc (vp_in_nI hi hn) hd (by rw [nI_clamp (Nat.lt_trans hi hn), ti_o_up]; exact k)
end TDA

theorem ti_wD_at {E : Nat → ClassId} {d0 d1 d2 : Nat} {hI uI vI : Nat → Nat} {pm wh : Nat → Nat} {many : Nat} {FA FB : Nat → Nat → Nat} {NN : Nat → Nat} {h ua ub : Nat} {fa fb : Nat → Nat} {n : Nat} : ∀ {j : Nat}, j < 10 → (ti_wD E d0 d1 d2 hI uI vI pm wh many FA FB NN ++ ti_wI E h ua ub fa fb n)[3 + 3 * j]? = some (hI j, .inr (1, [.ref (uI j), .ref (vI j), .int (nI (NN j))]))
  | 0, _ => rfl
  | 1, _ => rfl
  | 2, _ => rfl
  | 3, _ => rfl
  | 4, _ => rfl
  | 5, _ => rfl
  | 6, _ => rfl
  | 7, _ => rfl
  | 8, _ => rfl
  | 9, _ => rfl
  | _ + 10, h9 => absurd h9 (by omega)

/-- the deeds kept, in their order -/
def ti_dl (wh pm : Nat → Nat) (FA FB : Nat → Nat → Nat) (NN : Nat → Nat) (k m : Nat) : List (Nat × List (Nat × Nat)) := (List.range' k m).map fun j => (wh j, ti_gr (FA (pm j)) (FB (pm j)) 0 (NN (pm j)))
def ti_keep (x : Nat × List (Nat × Nat)) (L : List (Nat × List (Nat × Nat))) : List (Nat × List (Nat × Nat)) := (if L.length = 10 then L.drop 1 else L) ++ [x]
theorem ti_dl_at {wh pm : Nat → Nat} {FA FB : Nat → Nat → Nat} {NN : Nat → Nat} {k m j : Nat} (h : j < m) : (ti_dl wh pm FA FB NN k m)[j]? = some (wh (k + j), ti_gr (FA (pm (k + j))) (FB (pm (k + j))) 0 (NN (pm (k + j)))) := by
  simp [ti_dl, h]
theorem ti_dl_len (wh pm : Nat → Nat) (FA FB : Nat → Nat → Nat) (NN : Nat → Nat) (k m : Nat) : (ti_dl wh pm FA FB NN k m).length = m := by simp [ti_dl]
/-- a permutation of the ten places -/
def ti_perm (pm : Nat → Nat) : Prop := (∀ j, j < 10 → pm j < 10) ∧ ∀ i j, i < 10 → j < 10 → pm i = pm j → i = j
theorem ti_dl_push {wh pm : Nat → Nat} {FA FB : Nat → Nat → Nat} {NN : Nat → Nat} {c w n : Nat} {fa fb : Nat → Nat} (hc : c < 10) (hp : ti_perm pm) : ti_dl (va_up wh c w) pm (va_up FA (pm c) fa) (va_up FB (pm c) fb) (va_up NN (pm c) n) 0 (c + 1) = ti_dl wh pm FA FB NN 0 c ++ [(w, ti_gr fa fb 0 n)] := by
  apply List.ext_getElem?
  intro j
  by_cases hj : j < c
  · have hne : pm j ≠ pm c := fun z => absurd (hp.2 j c (by omega) hc z) (by omega)
    rw [ti_dl_at (by omega), List.getElem?_append_left (by rw [ti_dl_len]; exact hj), ti_dl_at hj, Nat.zero_add, va_up_ne _ _ (by omega), va_up_ne _ _ hne, va_up_ne _ _ hne, va_up_ne _ _ hne]
  · by_cases he : j = c
    · subst he
      rw [ti_dl_at (by omega), List.getElem?_append_right (by rw [ti_dl_len]; omega), ti_dl_len, Nat.zero_add, va_up_self, va_up_self, va_up_self, va_up_self]
      simp
    · rw [List.getElem?_eq_none (by rw [ti_dl_len]; omega), List.getElem?_eq_none (by simp [ti_dl_len]; omega)]
theorem ti_dl_rot {wh pm : Nat → Nat} {FA FB : Nat → Nat → Nat} {NN : Nat → Nat} {x : Nat} : ti_dl (ti_sh 0 9 wh) (va_up (ti_sh 0 9 pm) 9 x) FA FB NN 0 9 = (ti_dl wh pm FA FB NN 0 10).drop 1 := by
  apply List.ext_getElem?
  intro j
  rw [List.getElem?_drop]
  by_cases hj : j < 9
  · rw [ti_dl_at hj, ti_dl_at (by omega), Nat.zero_add, va_up_ne _ _ (by omega)]
    unfold ti_sh
    rw [if_pos (by omega), if_pos (by omega), Nat.zero_add, Nat.add_comm 1 j]
  · rw [List.getElem?_eq_none (by rw [ti_dl_len]; omega), List.getElem?_eq_none (by rw [ti_dl_len]; omega)]
theorem ti_perm_rot {pm : Nat → Nat} (h : ti_perm pm) : ti_perm (va_up (ti_sh 0 9 pm) 9 (pm 0)) := by
  have hv : ∀ j, j < 10 → va_up (ti_sh 0 9 pm) 9 (pm 0) j = pm (if j = 9 then 0 else j + 1) := by
    intro j hj
    unfold va_up ti_sh
    by_cases e : j = 9
    · rw [if_pos e, if_pos e]
    · rw [if_neg e, if_neg e, if_pos (by omega)]
  refine ⟨fun j hj => ?_, fun i j hi hj hij => ?_⟩
  · rw [hv j hj]
    refine h.1 _ ?_
    by_cases e : j = 9
    · rw [if_pos e]; omega
    · rw [if_neg e]; omega
  · rw [hv i hi, hv j hj] at hij
    have := h.2 _ _ (by by_cases e : i = 9 <;> simp [e] <;> omega) (by by_cases e : j = 9 <;> simp [e] <;> omega) hij
    by_cases e1 : i = 9
    · by_cases e2 : j = 9
      · omega
      · simp [e1, e2] at this
    · by_cases e2 : j = 9
      · simp [e1, e2] at this
      · simp [e1, e2] at this
        omega
theorem ti_up2_le {F : Nat → Nat → Nat} {i B : Nat} {f : Nat → Nat} (h : ∀ k j, F k j ≤ B) (hf : ∀ j, f j ≤ B) : ∀ k j, va_up F i f k j ≤ B := by
  intro k j
  unfold va_up
  by_cases e : k = i
  · rw [if_pos e]; exact hf j
  · rw [if_neg e]; exact h k j

section TDB
variable {p : Program} {l : Launch} {e : Env} {R : Room} {s : State} {m : MethodId} {args : Array Value} {below : List Frame} {meth : Method} {c : Code} {H H0 : Heap} {locs : List Loc} {cells slots : Nat} {Q : State → Prop}
variable {D : va_G} {E : Nat → ClassId} {d0 d1 d2 : Nat} {hI uI vI : Nat → Nat} {pm wh : Nat → Nat} {many : Nat} {FA FB : Nat → Nat → Nat} {NN : Nat → Nat} {h ua ub : Nat} {fa fb : Nat → Nat} {n : Nat} {cc : ByteArray} {nL index pc : Nat} {ls : Array Slot} {rest : List Value} {own : String} {A : Nat → Prop}
set_option maxHeartbeats 2000000 in
/-- a kept ideal takes another's generators -/
theorem ti_kept (S : CallFix p m c cc nL s args lw_all own) (hE : ti_E D E s) (hP : va_P D vwCl (ti_wD E d0 d1 d2 hI uI vI pm wh many FA FB NN ++ ti_wI E h ua ub fa fb n) H) (hD : va_D A (ti_wD E d0 d1 d2 hI uI vI pm wh many FA FB NN ++ ti_wI E h ua ub fa fb n)) (hS : va_S A H0 H locs) (hA : ∀ q, H0.size ≤ q → A q)
    (hl : Cond.methodLink own index yX1_takes ∈ lw_all) (hR : 2 ≤ R.frames ∧ 85 ≤ R.locals) (hsz : ls.size = nL) (hW : (rest.map fun v => v.category).sum ≤ 8) (hcs : cells ≤ R.cells ∧ slots ≤ R.slots) (hdg : decode cc pc = .ok (.invokevirtual index, 3)) :
    ∀ (j : Nat), j < 10 → (∀ (H : Heap) (locs : List Loc), va_P D vwCl (ti_wD E d0 d1 d2 hI uI vI pm wh many (va_up FA j fa) (va_up FB j fb) (va_up NN j n) ++ ti_wI E h ua ub fa fb n) H → va_D A (ti_wD E d0 d1 d2 hI uI vI pm wh many (va_up FA j fa) (va_up FB j fb) (va_up NN j n) ++ ti_wI E h ua ub fa fb n) → va_S A H0 H locs → W p l e R s m args below meth c H locs cells slots Q (F0 m (pc + 3) ls rest)) →
    W p l e R s m args below meth c H locs cells slots Q (F0 m pc ls (.ref h :: .ref (hI j) :: rest))
  | 0, _, kk => ti_mV (As := [.ref h]) (rest := rest) S hE hP hD hS hA [3, 4, 5, 33, 34, 35] rfl (met_X1_takes l D E (hI 0) (uI 0) (vI 0) (FA 0) (FB 0) (NN 0) h ua ub fa fb n) rfl (fun _ => rfl) (lw_V hl q317 q318 q67 q319) 1 rfl 3 rfl rfl (by decide +kernel) hR hsz rfl hW hcs hdg (fun _ H locs _ hP hD hS => kk H locs hP hD hS)
  | 1, _, kk => ti_mV (As := [.ref h]) (rest := rest) S hE hP hD hS hA [6, 7, 8, 33, 34, 35] rfl (met_X1_takes l D E (hI 1) (uI 1) (vI 1) (FA 1) (FB 1) (NN 1) h ua ub fa fb n) rfl (fun _ => rfl) (lw_V hl q317 q318 q67 q319) 1 rfl 6 rfl rfl (by decide +kernel) hR hsz rfl hW hcs hdg (fun _ H locs _ hP hD hS => kk H locs hP hD hS)
  | 2, _, kk => ti_mV (As := [.ref h]) (rest := rest) S hE hP hD hS hA [9, 10, 11, 33, 34, 35] rfl (met_X1_takes l D E (hI 2) (uI 2) (vI 2) (FA 2) (FB 2) (NN 2) h ua ub fa fb n) rfl (fun _ => rfl) (lw_V hl q317 q318 q67 q319) 1 rfl 9 rfl rfl (by decide +kernel) hR hsz rfl hW hcs hdg (fun _ H locs _ hP hD hS => kk H locs hP hD hS)
  | 3, _, kk => ti_mV (As := [.ref h]) (rest := rest) S hE hP hD hS hA [12, 13, 14, 33, 34, 35] rfl (met_X1_takes l D E (hI 3) (uI 3) (vI 3) (FA 3) (FB 3) (NN 3) h ua ub fa fb n) rfl (fun _ => rfl) (lw_V hl q317 q318 q67 q319) 1 rfl 12 rfl rfl (by decide +kernel) hR hsz rfl hW hcs hdg (fun _ H locs _ hP hD hS => kk H locs hP hD hS)
  | 4, _, kk => ti_mV (As := [.ref h]) (rest := rest) S hE hP hD hS hA [15, 16, 17, 33, 34, 35] rfl (met_X1_takes l D E (hI 4) (uI 4) (vI 4) (FA 4) (FB 4) (NN 4) h ua ub fa fb n) rfl (fun _ => rfl) (lw_V hl q317 q318 q67 q319) 1 rfl 15 rfl rfl (by decide +kernel) hR hsz rfl hW hcs hdg (fun _ H locs _ hP hD hS => kk H locs hP hD hS)
  | 5, _, kk => ti_mV (As := [.ref h]) (rest := rest) S hE hP hD hS hA [18, 19, 20, 33, 34, 35] rfl (met_X1_takes l D E (hI 5) (uI 5) (vI 5) (FA 5) (FB 5) (NN 5) h ua ub fa fb n) rfl (fun _ => rfl) (lw_V hl q317 q318 q67 q319) 1 rfl 18 rfl rfl (by decide +kernel) hR hsz rfl hW hcs hdg (fun _ H locs _ hP hD hS => kk H locs hP hD hS)
  | 6, _, kk => ti_mV (As := [.ref h]) (rest := rest) S hE hP hD hS hA [21, 22, 23, 33, 34, 35] rfl (met_X1_takes l D E (hI 6) (uI 6) (vI 6) (FA 6) (FB 6) (NN 6) h ua ub fa fb n) rfl (fun _ => rfl) (lw_V hl q317 q318 q67 q319) 1 rfl 21 rfl rfl (by decide +kernel) hR hsz rfl hW hcs hdg (fun _ H locs _ hP hD hS => kk H locs hP hD hS)
  | 7, _, kk => ti_mV (As := [.ref h]) (rest := rest) S hE hP hD hS hA [24, 25, 26, 33, 34, 35] rfl (met_X1_takes l D E (hI 7) (uI 7) (vI 7) (FA 7) (FB 7) (NN 7) h ua ub fa fb n) rfl (fun _ => rfl) (lw_V hl q317 q318 q67 q319) 1 rfl 24 rfl rfl (by decide +kernel) hR hsz rfl hW hcs hdg (fun _ H locs _ hP hD hS => kk H locs hP hD hS)
  | 8, _, kk => ti_mV (As := [.ref h]) (rest := rest) S hE hP hD hS hA [27, 28, 29, 33, 34, 35] rfl (met_X1_takes l D E (hI 8) (uI 8) (vI 8) (FA 8) (FB 8) (NN 8) h ua ub fa fb n) rfl (fun _ => rfl) (lw_V hl q317 q318 q67 q319) 1 rfl 27 rfl rfl (by decide +kernel) hR hsz rfl hW hcs hdg (fun _ H locs _ hP hD hS => kk H locs hP hD hS)
  | 9, _, kk => ti_mV (As := [.ref h]) (rest := rest) S hE hP hD hS hA [30, 31, 32, 33, 34, 35] rfl (met_X1_takes l D E (hI 9) (uI 9) (vI 9) (FA 9) (FB 9) (NN 9) h ua ub fa fb n) rfl (fun _ => rfl) (lw_V hl q317 q318 q67 q319) 1 rfl 30 rfl rfl (by decide +kernel) hR hsz rfl hW hcs hdg (fun _ H locs _ hP hD hS => kk H locs hP hD hS)
  | _ + 10, h9, _ => absurd h9 (by omega)
end TDB

/-- two ideals in an array -/
abbrev ti_wJ (E : Nat → ClassId) (j0 : Nat) (hJ uJ vJ : Nat → Nat) (GA GB : Nat → Nat → Nat) (GN : Nat → Nat) : va_W := [(j0, .inl (E 5, 2, .inr (.inr (.inr (.inr (ti_o hJ (fun j => j))))))), (hJ 0, .inr (1, [.ref (uJ 0), .ref (vJ 0), .int (nI (GN 0))])), (uJ 0, .inl (E 0, 6, .inl (ti_n (GA 0)))), (vJ 0, .inl (E 0, 6, .inl (ti_n (GB 0)))), (hJ 1, .inr (1, [.ref (uJ 1), .ref (vJ 1), .int (nI (GN 1))])), (uJ 1, .inl (E 0, 6, .inl (ti_n (GA 1)))), (vJ 1, .inl (E 0, 6, .inl (ti_n (GB 1))))]

section TDC
variable {p : Program} {l : Launch} {e : Env} {R : Room} {s : State} {m : MethodId} {args : Array Value} {below : List Frame} {meth : Method} {c : Code} {H H0 : Heap} {locs : List Loc} {cells slots : Nat} {Q : State → Prop}
variable {D : va_G} {E : Nat → ClassId} {d0 d1 d2 : Nat} {hI uI vI : Nat → Nat} {pm wh : Nat → Nat} {many : Nat} {FA FB : Nat → Nat → Nat} {NN : Nat → Nat} {j0 : Nat} {hJ uJ vJ : Nat → Nat} {GA GB : Nat → Nat → Nat} {GN : Nat → Nat} {cc : ByteArray} {nL index pc : Nat} {ls : Array Slot} {rest : List Value} {own : String} {A : Nat → Prop}
set_option maxHeartbeats 4000000 in
/-- an ideal takes what was kept -/
theorem ti_took (S : CallFix p m c cc nL s args lw_all own) (hE : ti_E D E s) (hP : va_P D vwCl (ti_wD E d0 d1 d2 hI uI vI pm wh many FA FB NN ++ ti_wJ E j0 hJ uJ vJ GA GB GN) H) (hD : va_D A (ti_wD E d0 d1 d2 hI uI vI pm wh many FA FB NN ++ ti_wJ E j0 hJ uJ vJ GA GB GN)) (hS : va_S A H0 H locs) (hA : ∀ q, H0.size ≤ q → A q)
    (hl : Cond.methodLink own index yX1_takes ∈ lw_all) (hR : 2 ≤ R.frames ∧ 85 ≤ R.locals) (hsz : ls.size = nL) (hW : (rest.map fun v => v.category).sum ≤ 8) (hcs : cells ≤ R.cells ∧ slots ≤ R.slots) (hdg : decode cc pc = .ok (.invokevirtual index, 3)) :
    ∀ (w : Nat), w < 2 → ∀ (j : Nat), j < 10 → (∀ (H : Heap) (locs : List Loc), va_P D vwCl (ti_wD E d0 d1 d2 hI uI vI pm wh many FA FB NN ++ ti_wJ E j0 hJ uJ vJ (va_up GA w (FA j)) (va_up GB w (FB j)) (va_up GN w (NN j))) H → va_D A (ti_wD E d0 d1 d2 hI uI vI pm wh many FA FB NN ++ ti_wJ E j0 hJ uJ vJ (va_up GA w (FA j)) (va_up GB w (FB j)) (va_up GN w (NN j))) → va_S A H0 H locs → W p l e R s m args below meth c H locs cells slots Q (F0 m (pc + 3) ls rest)) →
    W p l e R s m args below meth c H locs cells slots Q (F0 m pc ls (.ref (hI j) :: .ref (hJ w) :: rest))
  | 0, _, 0, _, kk => ti_mV (As := [.ref (hI 0)]) (rest := rest) S hE hP hD hS hA [34, 35, 36, 3, 4, 5] rfl (met_X1_takes l D E (hJ 0) (uJ 0) (vJ 0) (GA 0) (GB 0) (GN 0) (hI 0) (uI 0) (vI 0) (FA 0) (FB 0) (NN 0)) rfl (fun _ => rfl) (lw_V hl q317 q318 q67 q319) 1 rfl 34 rfl rfl (by decide +kernel) hR hsz rfl hW hcs hdg (fun _ H locs _ hP hD hS => kk H locs hP hD hS)
  | 0, _, 1, _, kk => ti_mV (As := [.ref (hI 1)]) (rest := rest) S hE hP hD hS hA [34, 35, 36, 6, 7, 8] rfl (met_X1_takes l D E (hJ 0) (uJ 0) (vJ 0) (GA 0) (GB 0) (GN 0) (hI 1) (uI 1) (vI 1) (FA 1) (FB 1) (NN 1)) rfl (fun _ => rfl) (lw_V hl q317 q318 q67 q319) 1 rfl 34 rfl rfl (by decide +kernel) hR hsz rfl hW hcs hdg (fun _ H locs _ hP hD hS => kk H locs hP hD hS)
  | 0, _, 2, _, kk => ti_mV (As := [.ref (hI 2)]) (rest := rest) S hE hP hD hS hA [34, 35, 36, 9, 10, 11] rfl (met_X1_takes l D E (hJ 0) (uJ 0) (vJ 0) (GA 0) (GB 0) (GN 0) (hI 2) (uI 2) (vI 2) (FA 2) (FB 2) (NN 2)) rfl (fun _ => rfl) (lw_V hl q317 q318 q67 q319) 1 rfl 34 rfl rfl (by decide +kernel) hR hsz rfl hW hcs hdg (fun _ H locs _ hP hD hS => kk H locs hP hD hS)
  | 0, _, 3, _, kk => ti_mV (As := [.ref (hI 3)]) (rest := rest) S hE hP hD hS hA [34, 35, 36, 12, 13, 14] rfl (met_X1_takes l D E (hJ 0) (uJ 0) (vJ 0) (GA 0) (GB 0) (GN 0) (hI 3) (uI 3) (vI 3) (FA 3) (FB 3) (NN 3)) rfl (fun _ => rfl) (lw_V hl q317 q318 q67 q319) 1 rfl 34 rfl rfl (by decide +kernel) hR hsz rfl hW hcs hdg (fun _ H locs _ hP hD hS => kk H locs hP hD hS)
  | 0, _, 4, _, kk => ti_mV (As := [.ref (hI 4)]) (rest := rest) S hE hP hD hS hA [34, 35, 36, 15, 16, 17] rfl (met_X1_takes l D E (hJ 0) (uJ 0) (vJ 0) (GA 0) (GB 0) (GN 0) (hI 4) (uI 4) (vI 4) (FA 4) (FB 4) (NN 4)) rfl (fun _ => rfl) (lw_V hl q317 q318 q67 q319) 1 rfl 34 rfl rfl (by decide +kernel) hR hsz rfl hW hcs hdg (fun _ H locs _ hP hD hS => kk H locs hP hD hS)
  | 0, _, 5, _, kk => ti_mV (As := [.ref (hI 5)]) (rest := rest) S hE hP hD hS hA [34, 35, 36, 18, 19, 20] rfl (met_X1_takes l D E (hJ 0) (uJ 0) (vJ 0) (GA 0) (GB 0) (GN 0) (hI 5) (uI 5) (vI 5) (FA 5) (FB 5) (NN 5)) rfl (fun _ => rfl) (lw_V hl q317 q318 q67 q319) 1 rfl 34 rfl rfl (by decide +kernel) hR hsz rfl hW hcs hdg (fun _ H locs _ hP hD hS => kk H locs hP hD hS)
  | 0, _, 6, _, kk => ti_mV (As := [.ref (hI 6)]) (rest := rest) S hE hP hD hS hA [34, 35, 36, 21, 22, 23] rfl (met_X1_takes l D E (hJ 0) (uJ 0) (vJ 0) (GA 0) (GB 0) (GN 0) (hI 6) (uI 6) (vI 6) (FA 6) (FB 6) (NN 6)) rfl (fun _ => rfl) (lw_V hl q317 q318 q67 q319) 1 rfl 34 rfl rfl (by decide +kernel) hR hsz rfl hW hcs hdg (fun _ H locs _ hP hD hS => kk H locs hP hD hS)
  | 0, _, 7, _, kk => ti_mV (As := [.ref (hI 7)]) (rest := rest) S hE hP hD hS hA [34, 35, 36, 24, 25, 26] rfl (met_X1_takes l D E (hJ 0) (uJ 0) (vJ 0) (GA 0) (GB 0) (GN 0) (hI 7) (uI 7) (vI 7) (FA 7) (FB 7) (NN 7)) rfl (fun _ => rfl) (lw_V hl q317 q318 q67 q319) 1 rfl 34 rfl rfl (by decide +kernel) hR hsz rfl hW hcs hdg (fun _ H locs _ hP hD hS => kk H locs hP hD hS)
  | 0, _, 8, _, kk => ti_mV (As := [.ref (hI 8)]) (rest := rest) S hE hP hD hS hA [34, 35, 36, 27, 28, 29] rfl (met_X1_takes l D E (hJ 0) (uJ 0) (vJ 0) (GA 0) (GB 0) (GN 0) (hI 8) (uI 8) (vI 8) (FA 8) (FB 8) (NN 8)) rfl (fun _ => rfl) (lw_V hl q317 q318 q67 q319) 1 rfl 34 rfl rfl (by decide +kernel) hR hsz rfl hW hcs hdg (fun _ H locs _ hP hD hS => kk H locs hP hD hS)
  | 0, _, 9, _, kk => ti_mV (As := [.ref (hI 9)]) (rest := rest) S hE hP hD hS hA [34, 35, 36, 30, 31, 32] rfl (met_X1_takes l D E (hJ 0) (uJ 0) (vJ 0) (GA 0) (GB 0) (GN 0) (hI 9) (uI 9) (vI 9) (FA 9) (FB 9) (NN 9)) rfl (fun _ => rfl) (lw_V hl q317 q318 q67 q319) 1 rfl 34 rfl rfl (by decide +kernel) hR hsz rfl hW hcs hdg (fun _ H locs _ hP hD hS => kk H locs hP hD hS)
  | 1, _, 0, _, kk => ti_mV (As := [.ref (hI 0)]) (rest := rest) S hE hP hD hS hA [37, 38, 39, 3, 4, 5] rfl (met_X1_takes l D E (hJ 1) (uJ 1) (vJ 1) (GA 1) (GB 1) (GN 1) (hI 0) (uI 0) (vI 0) (FA 0) (FB 0) (NN 0)) rfl (fun _ => rfl) (lw_V hl q317 q318 q67 q319) 1 rfl 37 rfl rfl (by decide +kernel) hR hsz rfl hW hcs hdg (fun _ H locs _ hP hD hS => kk H locs hP hD hS)
  | 1, _, 1, _, kk => ti_mV (As := [.ref (hI 1)]) (rest := rest) S hE hP hD hS hA [37, 38, 39, 6, 7, 8] rfl (met_X1_takes l D E (hJ 1) (uJ 1) (vJ 1) (GA 1) (GB 1) (GN 1) (hI 1) (uI 1) (vI 1) (FA 1) (FB 1) (NN 1)) rfl (fun _ => rfl) (lw_V hl q317 q318 q67 q319) 1 rfl 37 rfl rfl (by decide +kernel) hR hsz rfl hW hcs hdg (fun _ H locs _ hP hD hS => kk H locs hP hD hS)
  | 1, _, 2, _, kk => ti_mV (As := [.ref (hI 2)]) (rest := rest) S hE hP hD hS hA [37, 38, 39, 9, 10, 11] rfl (met_X1_takes l D E (hJ 1) (uJ 1) (vJ 1) (GA 1) (GB 1) (GN 1) (hI 2) (uI 2) (vI 2) (FA 2) (FB 2) (NN 2)) rfl (fun _ => rfl) (lw_V hl q317 q318 q67 q319) 1 rfl 37 rfl rfl (by decide +kernel) hR hsz rfl hW hcs hdg (fun _ H locs _ hP hD hS => kk H locs hP hD hS)
  | 1, _, 3, _, kk => ti_mV (As := [.ref (hI 3)]) (rest := rest) S hE hP hD hS hA [37, 38, 39, 12, 13, 14] rfl (met_X1_takes l D E (hJ 1) (uJ 1) (vJ 1) (GA 1) (GB 1) (GN 1) (hI 3) (uI 3) (vI 3) (FA 3) (FB 3) (NN 3)) rfl (fun _ => rfl) (lw_V hl q317 q318 q67 q319) 1 rfl 37 rfl rfl (by decide +kernel) hR hsz rfl hW hcs hdg (fun _ H locs _ hP hD hS => kk H locs hP hD hS)
  | 1, _, 4, _, kk => ti_mV (As := [.ref (hI 4)]) (rest := rest) S hE hP hD hS hA [37, 38, 39, 15, 16, 17] rfl (met_X1_takes l D E (hJ 1) (uJ 1) (vJ 1) (GA 1) (GB 1) (GN 1) (hI 4) (uI 4) (vI 4) (FA 4) (FB 4) (NN 4)) rfl (fun _ => rfl) (lw_V hl q317 q318 q67 q319) 1 rfl 37 rfl rfl (by decide +kernel) hR hsz rfl hW hcs hdg (fun _ H locs _ hP hD hS => kk H locs hP hD hS)
  | 1, _, 5, _, kk => ti_mV (As := [.ref (hI 5)]) (rest := rest) S hE hP hD hS hA [37, 38, 39, 18, 19, 20] rfl (met_X1_takes l D E (hJ 1) (uJ 1) (vJ 1) (GA 1) (GB 1) (GN 1) (hI 5) (uI 5) (vI 5) (FA 5) (FB 5) (NN 5)) rfl (fun _ => rfl) (lw_V hl q317 q318 q67 q319) 1 rfl 37 rfl rfl (by decide +kernel) hR hsz rfl hW hcs hdg (fun _ H locs _ hP hD hS => kk H locs hP hD hS)
  | 1, _, 6, _, kk => ti_mV (As := [.ref (hI 6)]) (rest := rest) S hE hP hD hS hA [37, 38, 39, 21, 22, 23] rfl (met_X1_takes l D E (hJ 1) (uJ 1) (vJ 1) (GA 1) (GB 1) (GN 1) (hI 6) (uI 6) (vI 6) (FA 6) (FB 6) (NN 6)) rfl (fun _ => rfl) (lw_V hl q317 q318 q67 q319) 1 rfl 37 rfl rfl (by decide +kernel) hR hsz rfl hW hcs hdg (fun _ H locs _ hP hD hS => kk H locs hP hD hS)
  | 1, _, 7, _, kk => ti_mV (As := [.ref (hI 7)]) (rest := rest) S hE hP hD hS hA [37, 38, 39, 24, 25, 26] rfl (met_X1_takes l D E (hJ 1) (uJ 1) (vJ 1) (GA 1) (GB 1) (GN 1) (hI 7) (uI 7) (vI 7) (FA 7) (FB 7) (NN 7)) rfl (fun _ => rfl) (lw_V hl q317 q318 q67 q319) 1 rfl 37 rfl rfl (by decide +kernel) hR hsz rfl hW hcs hdg (fun _ H locs _ hP hD hS => kk H locs hP hD hS)
  | 1, _, 8, _, kk => ti_mV (As := [.ref (hI 8)]) (rest := rest) S hE hP hD hS hA [37, 38, 39, 27, 28, 29] rfl (met_X1_takes l D E (hJ 1) (uJ 1) (vJ 1) (GA 1) (GB 1) (GN 1) (hI 8) (uI 8) (vI 8) (FA 8) (FB 8) (NN 8)) rfl (fun _ => rfl) (lw_V hl q317 q318 q67 q319) 1 rfl 37 rfl rfl (by decide +kernel) hR hsz rfl hW hcs hdg (fun _ H locs _ hP hD hS => kk H locs hP hD hS)
  | 1, _, 9, _, kk => ti_mV (As := [.ref (hI 9)]) (rest := rest) S hE hP hD hS hA [37, 38, 39, 30, 31, 32] rfl (met_X1_takes l D E (hJ 1) (uJ 1) (vJ 1) (GA 1) (GB 1) (GN 1) (hI 9) (uI 9) (vI 9) (FA 9) (FB 9) (NN 9)) rfl (fun _ => rfl) (lw_V hl q317 q318 q67 q319) 1 rfl 37 rfl rfl (by decide +kernel) hR hsz rfl hW hcs hdg (fun _ H locs _ hP hD hS => kk H locs hP hD hS)
  | _ + 2, h9, _, _, _ => absurd h9 (by omega)
  | _, _, _ + 10, h9, _ => absurd h9 (by omega)
end TDC
theorem ti_sh_up1 {k : Nat} (h : 1 ≤ k) (f : Nat → Nat) : va_up (ti_sh 0 (k - 1) f) (k - 1) (ti_sh 0 (k - 1) f k) = ti_sh 0 (k + 1 - 1) f := by
  have := ti_sh_up (Nat.zero_le (k - 1)) f
  rw [show k - 1 + 1 = k by omega] at this
  exact this
def ti_DI (pm wh : Nat → Nat) (many : Nat) (FA FB : Nat → Nat → Nat) (NN : Nat → Nat) : Prop := many ≤ 10 ∧ ti_perm pm ∧ (∀ k j, FA k j ≤ 9) ∧ (∀ k j, FB k j ≤ 9) ∧ (∀ k, NN k ≤ 6) ∧ ∀ k, wh k ≤ 1
