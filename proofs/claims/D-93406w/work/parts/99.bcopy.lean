/-! arraycopy: types that differ, places out of bounds -/
set_option maxRecDepth 100000
def ti_kn (t : FieldType) : String := Native.java_lang_System.arraycopy.kindName t
def ti_tyT (ty tz : FieldType) : String := "arraycopy: type mismatch: can not copy " ++ ti_kn ty ++ "[] into " ++ ti_kn tz ++ "[]"
theorem ti_kn_len (t : FieldType) : (ti_kn t).toList.length ≤ 12 := by
  cases t <;> first | decide | exact (by decide : "object array".toList.length ≤ 12)
theorem ti_ac_known (w : String) : (("arraycopy: " ++ w) == notModelled) = false := by
  rw [beq_eq_false_iff_ne]
  intro h
  have h2 := congrArg String.toList h
  rw [String.toList_append] at h2
  have h3 : "arraycopy: ".toList = 'a' :: "rraycopy: ".toList := by decide
  have h4 : notModelled.toList = '\u0000' :: " a message that is not modelled".toList := by decide
  rw [h3, h4] at h2
  simp at h2
theorem ti_txt_bytes {s : String} {n : Nat} (h : s.toList.length ≤ n) : (stringBytes (stringToUtf16 s)).size ≤ 4 * n := by
  have b1 := stringBytes_size_le (stringToUtf16 s)
  have b2 := utf16_size_le s
  omega
theorem ti_int_print {i : Int} (h0 : 0 ≤ i) (h : i < 2 ^ 32) : (toString i).toList.length ≤ 10 := by
  obtain ⟨n, rfl⟩ := Int.eq_ofNat_of_zero_le h0
  show (toString n).toList.length ≤ 10
  exact nat_print (by omega)
theorem ti_cf_len {ty tz : FieldType} {n0 n1 : Nat} {sp dp n : Int32} {w : String} (h0 : n0 < 2 ^ 31) (h1 : n1 < 2 ^ 31) (h : copyFault ty tz n0 n1 sp dp n = some w) : w.toList.length ≤ 100 := by
  have k0 := ti_kn_len ty
  have k1 := ti_kn_len tz
  have p0 := nat_print (n := n0) (by omega)
  have p1 := nat_print (n := n1) (by omega)
  have i0 := int32_print sp
  have i1 := int32_print dp
  have i2 := int32_print n
  have e0 : (toString "source index ").toList.length = 13 := by decide
  have e1 : (toString " out of bounds for ").toList.length = 19 := by decide
  have e2 : (toString "destination index ").toList.length = 18 := by decide
  have e3 : (toString "length ").toList.length = 7 := by decide
  have e4 : (toString " is negative").toList.length = 12 := by decide
  have e5 : (toString "last source index ").toList.length = 18 := by decide
  have e6 : (toString "last destination index ").toList.length = 23 := by decide
  have e7 : (toString "[").toList.length = 1 := by decide
  have e8 : (toString "]").toList.length = 1 := by decide
  have e9 : (toString "").toList.length = 0 := by decide
  have a0 : (toString (toString (ti_kn ty) ++ toString "[" ++ toString n0 ++ toString "]")).toList.length ≤ 24 := by
    show (ti_kn ty ++ toString "[" ++ toString n0 ++ toString "]").toList.length ≤ 24
    simp only [String.toList_append, List.length_append]
    omega
  have a1 : (toString (toString (ti_kn tz) ++ toString "[" ++ toString n1 ++ toString "]")).toList.length ≤ 24 := by
    show (ti_kn tz ++ toString "[" ++ toString n1 ++ toString "]").toList.length ≤ 24
    simp only [String.toList_append, List.length_append]
    omega
  unfold copyFault at h
  by_cases c1 : sp < 0
  · rw [if_pos c1] at h
    rw [← Option.some.inj h]
    show (toString "source index " ++ toString sp ++ toString " out of bounds for " ++ toString (toString (ti_kn ty) ++ toString "[" ++ toString n0 ++ toString "]")).toList.length ≤ 100
    simp only [String.toList_append, List.length_append] at a0 ⊢
    omega
  rw [if_neg c1] at h
  by_cases c2 : dp < 0
  · rw [if_pos c2] at h
    rw [← Option.some.inj h]
    show (toString "destination index " ++ toString dp ++ toString " out of bounds for " ++ toString (toString (ti_kn tz) ++ toString "[" ++ toString n1 ++ toString "]")).toList.length ≤ 100
    simp only [String.toList_append, List.length_append] at a1 ⊢
    omega
  rw [if_neg c2] at h
  by_cases c3 : n < 0
  · rw [if_pos c3] at h
    rw [← Option.some.inj h]
    show (toString "length " ++ toString n ++ toString " is negative").toList.length ≤ 100
    simp only [String.toList_append, List.length_append]
    omega
  rw [if_neg c3] at h
  have z1 : 0 ≤ sp.toInt := by have := Int32.not_lt.mp c1; simpa using Int32.le_iff_toInt_le.mp this
  have z2 : 0 ≤ dp.toInt := by have := Int32.not_lt.mp c2; simpa using Int32.le_iff_toInt_le.mp this
  have z3 : 0 ≤ n.toInt := by have := Int32.not_lt.mp c3; simpa using Int32.le_iff_toInt_le.mp this
  have y1 := Int32.toInt_lt sp
  have y2 := Int32.toInt_lt dp
  have y3 := Int32.toInt_lt n
  have j1 := ti_int_print (i := sp.toInt + n.toInt) (by omega) (by omega)
  have j2 := ti_int_print (i := dp.toInt + n.toInt) (by omega) (by omega)
  by_cases c4 : sp.toInt + n.toInt > n0
  · rw [if_pos c4] at h
    rw [← Option.some.inj h]
    show (toString "last source index " ++ toString (sp.toInt + n.toInt) ++ toString " out of bounds for " ++ toString (toString (ti_kn ty) ++ toString "[" ++ toString n0 ++ toString "]")).toList.length ≤ 100
    simp only [String.toList_append, List.length_append] at a0 ⊢
    omega
  rw [if_neg c4] at h
  by_cases c5 : dp.toInt + n.toInt > n1
  · rw [if_pos c5] at h
    rw [← Option.some.inj h]
    show (toString "last destination index " ++ toString (dp.toInt + n.toInt) ++ toString " out of bounds for " ++ toString (toString (ti_kn tz) ++ toString "[" ++ toString n1 ++ toString "]")).toList.length ≤ 100
    simp only [String.toList_append, List.length_append] at a1 ⊢
    omega
  rw [if_neg c5] at h
  cases h
theorem ti_ac_len {ty tz : FieldType} {n0 n1 : Nat} {sp dp n : Int32} {w : String} (h0 : n0 < 2 ^ 31) (h1 : n1 < 2 ^ 31) (h : copyFault ty tz n0 n1 sp dp n = some w) : (stringBytes (stringToUtf16 ("arraycopy: " ++ w))).size ≤ 444 := by
  have := ti_cf_len h0 h1 h
  refine Nat.le_trans (ti_txt_bytes (n := 111) ?_) (Nat.le_of_ble_eq_true rfl)
  rw [String.toList_append, List.length_append]
  have e0 : "arraycopy: ".toList.length = 11 := by decide
  omega
section TBC
variable {p : Program} {l : Launch} {e : Env} {R : Room} {s : State} {m : MethodId} {args : Array Value} {below : List Frame} {meth : Method} {c : Code} {H : Heap} {locs : List Loc} {cells slots : Nat} {Q : State → Prop}
variable {cc : ByteArray} {pc nL z0 : Nat} {ls : Array Slot} {rest : List Value} {D : va_G} {E : Nat → ClassId} {ws wz : va_W} {A : Nat → Prop} {own : String}
/-- what the copy sees of an array of the world -/
theorem ti_acSee {tys : List (ClassId × FieldType)} (hK : va_K D vwCl tys s) (hP : va_P D vwCl ws H) (q0 t0 : Nat) {a : Nat} {c0 : ClassId} {x0 : vp_A} {ty : FieldType} (ha : ws[q0]? = some (a, .inl (c0, x0))) (ht : tys[t0]? = some (c0, ty)) {U : State} (hU : U.heap = H) (hW : s.WarmedH U.vm) :
    ∃ (cs : Cell) (ks : Class) (com : ClassId), U.heap[a]? = some cs ∧ (∀ k, cs.vm ≠ .statics k) ∧ U.vm.classes[cs.cls]? = some ks ∧ ks.kind = .array com ty ∧ cs.slots.size = x0.1 := by
  obtain ⟨-, kC, hkC, comC, hkdC⟩ := (hK.2 t0 _ ht).1 0 (fun _ => .null)
  have hkC : s.vm.classes[c0]? = some kC := hkC
  obtain ⟨k1, hk1, he1⟩ := hW.alike.2.2 _ _ hkC
  have hcl0 : (vp_cell c0 x0).cls = c0 := by
    obtain ⟨n, f | f | f | f | f⟩ := x0 <;> rfl
  have hvm0 : (vp_cell c0 x0).vm = .none := by
    obtain ⟨n, f | f | f | f | f⟩ := x0 <;> rfl
  have hsz0 : (vp_cell c0 x0).slots.size = x0.1 := by
    obtain ⟨n, f | f | f | f | f⟩ := x0
    · rw [vp_cell_i, arrV_size]
    · rw [vp_cell_l, arrV_size]
    · exact arrV_size _ _ _
    · exact arrV_size _ _ _
    · rw [vp_cell_q, arrV_size]
  exact ⟨vp_cell c0 x0, k1, comC, by rw [hU]; exact hP q0 _ ha, (fun k => by rw [hvm0]; intro z; cases z), by rw [hcl0]; exact hk1, by rw [he1]; exact hkdC, hsz0⟩
theorem ti_acTy {index a0 a1 nb : Nat} {sp dp n : Int32} (S : CallFix p m c cc nL s args lw_all own) (hE : ti_E D E s) (htr : l.stackTraces = false) (hP : va_P D vwCl ws H) (hZ : ti_Z z0 wz s) (hAz : ∀ q, A q → z0 ≤ q) (hS : va_S A s.heap H locs) (hsz : ls.size = nL)
    (q0 q1 t0 t1 : Nat) {c0 c1 : ClassId} {x0 x1 : vp_A} {ty tz : FieldType} (ha0 : ws[q0]? = some (a0, .inl (c0, x0))) (ha1 : ws[q1]? = some (a1, .inl (c1, x1))) (ht0 : (ti_tys E)[t0]? = some (c0, ty)) (ht1 : (ti_tys E)[t1]? = some (c1, tz)) (hty : ((refKind ty != refKind tz) || (!refKind ty && ty != tz)) = true)
    (htext : (ti_tyT ty tz == notModelled) = false) (hnb : (stringBytes (stringToUtf16 (ti_tyT ty tz))).size ≤ 444) (hRf : 7 < R.frames) (hW8 : (rest.map fun v => v.category).sum ≤ 8) (hRl8 : 8 + 10240 ≤ R.locals) (hRc : cells + 3 ≤ R.cells) (hRs : slots + 454 ≤ R.slots)
    (hlink : Cond.methodLink own index arraycopyName ∈ lw_all) (hdg : decode cc pc = .ok (.invokestatic index, 3))
    (k : ∀ (H1 : Heap) (q9 : Addr) (ce : Cell), (∀ q : Nat, q < H.size → H1[q]? = H[q]?) → va_S A s.heap H1 locs → H1[q9]? = some ce → ce.vm = .none → s.vm.findClass "java/lang/ArrayStoreException" = some ce.cls → vx_W p l e R s m args below meth c H1 locs (cells + 3) (slots + 454) Q (F0 m pc ls rest) q9) :
    W p l e R s m args below meth c H locs cells slots Q (F0 m pc ls (.int n :: .int dp :: .ref a1 :: .int sp :: .ref a0 :: rest)) := by
  refine ti_acM (cls := "java/lang/ArrayStoreException") (text := ti_tyT ty tz) (names := ["java/lang/RuntimeException", "java/lang/Exception"]) (nb := 444) S hE htr (by decide +kernel) (by decide +kernel) (by decide) (by decide) (by decide +kernel) (by decide +kernel) hZ hAz hS hsz htext hnb (by decide) hRf (by omega) hW8 hRl8 (by decide) hRc hRs hlink hdg (fun U hU hW fs Ec hEc => ?_) k
  obtain ⟨cs, ks, com, h1, h2, h3, h4, -⟩ := ti_acSee hE.1 hP q0 t0 ha0 ht0 hU hW
  obtain ⟨cd, kd, com', g1, g2, g3, g4, -⟩ := ti_acSee hE.1 hP q1 t1 ha1 ht1 hU hW
  exact W.arraycopy_types (s := U.setFrames fs) h1 g1 h2 g2 h3 g3 h4 g4 hty (hEc [])
theorem ti_acBd {index a0 a1 : Nat} {sp dp n : Int32} {w : String} (S : CallFix p m c cc nL s args lw_all own) (hE : ti_E D E s) (htr : l.stackTraces = false) (hP : va_P D vwCl ws H) (hZ : ti_Z z0 wz s) (hAz : ∀ q, A q → z0 ≤ q) (hS : va_S A s.heap H locs) (hsz : ls.size = nL)
    (q0 q1 t0 : Nat) {c0 : ClassId} {x0 x1 : vp_A} {ty : FieldType} (ha0 : ws[q0]? = some (a0, .inl (c0, x0))) (ha1 : ws[q1]? = some (a1, .inl (c0, x1))) (ht0 : (ti_tys E)[t0]? = some (c0, ty)) (hty : ((refKind ty != refKind ty) || (!refKind ty && ty != ty)) = false) (hn0 : x0.1 < 2 ^ 31) (hn1 : x1.1 < 2 ^ 31) (hf : copyFault ty ty x0.1 x1.1 sp dp n = some w)
    (hRf : 8 < R.frames) (hW8 : (rest.map fun v => v.category).sum ≤ 8) (hRl8 : 8 + 10240 ≤ R.locals) (hRc : cells + 3 ≤ R.cells) (hRs : slots + 454 ≤ R.slots)
    (hlink : Cond.methodLink own index arraycopyName ∈ lw_all) (hdg : decode cc pc = .ok (.invokestatic index, 3))
    (k : ∀ (H1 : Heap) (q9 : Addr) (ce : Cell), (∀ q : Nat, q < H.size → H1[q]? = H[q]?) → va_S A s.heap H1 locs → H1[q9]? = some ce → ce.vm = .none → s.vm.findClass "java/lang/ArrayIndexOutOfBoundsException" = some ce.cls → vx_W p l e R s m args below meth c H1 locs (cells + 3) (slots + 454) Q (F0 m pc ls rest) q9) :
    W p l e R s m args below meth c H locs cells slots Q (F0 m pc ls (.int n :: .int dp :: .ref a1 :: .int sp :: .ref a0 :: rest)) := by
  refine ti_acM (cls := "java/lang/ArrayIndexOutOfBoundsException") (text := "arraycopy: " ++ w) (names := ["java/lang/IndexOutOfBoundsException", "java/lang/RuntimeException", "java/lang/Exception"]) (nb := 444) S hE htr (by decide +kernel) (by decide +kernel) (by decide) (by decide) (by decide +kernel) (by decide +kernel) hZ hAz hS hsz (ti_ac_known w) (ti_ac_len hn0 hn1 hf) (by decide) hRf (by omega) hW8 hRl8 (by decide) hRc hRs hlink hdg (fun U hU hW fs Ec hEc => ?_) k
  obtain ⟨cs, ks, com, h1, h2, h3, h4, h5⟩ := ti_acSee hE.1 hP q0 t0 ha0 ht0 hU hW
  obtain ⟨cd, kd, com', g1, g2, g3, g4, g5⟩ := ti_acSee hE.1 hP q1 t0 ha1 ht0 hU hW
  exact W.arraycopy_bounds (s := U.setFrames fs) h1 g1 h2 g2 h3 g3 h4 g4 hty (by rw [h5, g5]; exact hf) (hEc [])
end TBC
