/-! a cast that fails -/
set_option maxRecDepth 100000
theorem ti_findA {vm : Vm} {C : String} {c : ClassId} {k : Class} (h : vm.findClass C = some c) (hk : vm.classes[c]? = some k) : k.name = C ∧ k.hidden = none ∧ k.loader = none := by
  obtain ⟨hlt, hp, -⟩ := Array.findIdx?_eq_some_iff_getElem.mp h
  have e : vm.classes[c] = k := by
    rw [Array.getElem?_eq_getElem hlt] at hk
    exact Option.some.inj hk
  rw [e] at hp
  simp only [Bool.and_eq_true, beq_iff_eq] at hp
  exact ⟨hp.1.1.1, by simpa using hp.1.1.2, by simpa using hp.2⟩
def ti_cct (C T h : String) : String := "class " ++ C ++ " cannot be cast to class " ++ T ++ " (" ++ (C ++ " and " ++ T ++ " are in " ++ h) ++ ")"
theorem ti_msgA {vm : Vm} {a b : Class} {C T : String} (ha : a.name = C) (hb : b.name = T) (hah : a.hidden = none) (hbh : b.hidden = none) (hal : a.loader = none) (hbl : b.loader = none) (hap : a.ofPrimitives = true) (hbp : b.ofPrimitives = true) (hC : dotted C = C) (hT : dotted T = T) :
    checkcast.message vm a b = ti_cct C T "module java.base of loader 'bootstrap'" ∨ checkcast.message vm a b = ti_cct C T "unnamed module of loader 'bootstrap'" := by
  have hsa : a.shown = C := by
    unfold Class.shown
    rw [hah]
    show dotted a.name = C
    rw [ha, hC]
  have hsb : b.shown = T := by
    unfold Class.shown
    rw [hbh]
    show dotted b.name = T
    rw [hb, hT]
  have hsm : vm.sameModule a b = true := by
    unfold Vm.sameModule Vm.moduleOf
    rw [if_pos hap, if_pos hbp]
    cases vm.modules.find? (fun m => m.name == "java.base") with
    | none => show (a.loader == b.loader) = true; rw [hal, hbl]; rfl
    | some x => show (x.obj == x.obj) = true; exact beq_self_eq_true _
  have hmsg : checkcast.message vm a b = ti_cct C T (vm.home a) := by
    unfold checkcast.message Vm.homes
    rw [if_pos hsm, hsa, hsb]
    rfl
  have hh : vm.home a = "module java.base of loader 'bootstrap'" ∨ vm.home a = "unnamed module of loader 'bootstrap'" := by
    unfold Vm.home Vm.moduleOf
    rw [if_pos hap, hal]
    cases hm : vm.modules.find? (fun m => m.name == "java.base") with
    | none => right; rfl
    | some x =>
      left
      have hx : x.name = "java.base" := by simpa using List.find?_some hm
      show "module " ++ x.name ++ " of loader " ++ _ = _
      rw [hx]; rfl
  rcases hh with h | h
  · left; rw [hmsg, h]
  · right; rw [hmsg, h]
section TCN
variable {p : Program} {l : Launch} {e : Env} {R : Room} {s : State} {m : MethodId} {args : Array Value} {below : List Frame} {meth : Method} {c : Code} {H : Heap} {locs : List Loc} {cells slots : Nat} {Q : State → Prop}
variable {cc : ByteArray} {pc nL z0 : Nat} {ls : Array Slot} {rest : List Value} {D : va_G} {E : Nat → ClassId} {ws wz : va_W} {a : Nat} {A : Nat → Prop} {own : String} {tys : List (ClassId × FieldType)}
theorem ti_castFails {T : State} (X : Stand p l e R s m args below meth c T locs cells slots) (hexec : p.tables.exec = Jvm.exec)
    {own name : String} {index : Nat} (hown : s.vm.findClass own = some m.cls) (hlink : (Cond.classLink own index name).before args s = true)
    {a : Addr} {cell : Cell} {cT : ClassId} {ks : Class} (hcell : T.heap[a]? = some cell) (hobj : cell.vm.isStatics = false) (hks : s.vm.classes[cell.cls]? = some ks) (hcT : s.vm.findClass name = some cT) (hasg : s.vm.assignable cell.cls cT = false)
    {g : JFrame} (hg : g.method = m) {rest : List Value} (hstack : g.stack = .ref a :: rest) (hdg : decode c.code g.pc = .ok (.checkcast index, 3)) :
    ∃ (vm' : Vm) (ks' kt' : Class), Stand p l e R s m args below meth c (T.setVm vm') locs cells slots ∧ s.vm.Alike vm' ∧ vm'.classes[cell.cls]? = some ks' ∧ vm'.classes[cT]? = some kt' ∧
      ∀ target, Steps p.tables e below (((T.setVm vm').setTop g).pushFrame (.throwNew "java/lang/ClassCastException" (some (checkcast.message vm' ks' kt')) none)) target → Steps p.tables e below (T.setTop g) target := by
  have hpl : e.platform.magicAccessors = ({} : Platform).magicAccessors := by rw [X.admits.platform]
  obtain ⟨c', hc', hcl⟩ := Cond.classLink_spec hown hlink e.platform hpl
  cases hcT.symm.trans hc'
  obtain ⟨dk, _, _, kt, hd, _, _, _, _, hkt, _, hopen⟩ := hcl.here
  have hcl₀ := X.warmed.classLinks hcl
  have hW' : s.WarmedH (T.vm.noted m.cls index (.cls cT)) := X.warmed.noted hd hopen (State.rightAt_cls hcl)
  obtain ⟨ks', hks', -⟩ := hW'.alike.2.2 _ _ hks
  obtain ⟨kt', hkt', -⟩ := hW'.alike.2.2 _ _ hkt
  refine ⟨_, ks', kt', X.noted hW', hW'.alike, hks', hkt', fun target hrest => ?_⟩
  subst hg
  jvm_step X.here [hexec, hdg, checkcast.wp_cold (e := e) (s := T) (f := g) X.here.top hstack (resolveClass_links e.toSetting hcl₀) hcl₀.ready,
    checkcast.wp_ready (e := e) (s := T.setVm (T.vm.noted g.method.cls index (.cls cT))) (f := g) X.here.top hcl₀.ready hstack]
  refine ⟨cell, hcell, VmData.noStatics_of hobj, ks', hks', kt', hkt', ?_⟩
  have h1 : (T.vm.noted g.method.cls index (Resolved.cls cT)).assignable cell.cls cT = false := by rw [hW'.alike.assignable]; exact hasg
  simp only [h1]
  exact hrest
theorem ti_castW {C nm : String} {index : Nat} (hexec : p.tables.exec = Jvm.exec) (hb : c.code = cc) (hown : s.vm.findClass own = some m.cls) (hlink : (Cond.classLink own index nm).before args s = true) (hK : va_K D vwCl tys s) (hP : va_P D vwCl ws H) (hc : va_Nc C nm s)
    (q0 t0 t1 : Nat) {cA cB : ClassId} {x : vp_A} {ty tz : FieldType} (ha : ws[q0]? = some (a, .inl (cA, x))) (ht : tys[t0]? = some (cA, ty)) (ht1 : tys[t1]? = some (cB, tz)) (hnC : s.vm.findClass C = some cA) (hnT : s.vm.findClass nm = some cB) (hpC : ((withoutBrackets C).length == 1) = true) (hpT : ((withoutBrackets nm).length == 1) = true) (hdC : dotted C = C) (hdT : dotted nm = nm) (hdg : decode cc pc = .ok (.checkcast index, 3))
    (k : ∀ tx : String, (tx = ti_cct C nm "module java.base of loader 'bootstrap'" ∨ tx = ti_cct C nm "unnamed module of loader 'bootstrap'") → vx_Note p l e R s m args below meth c H locs cells slots Q (F0 m pc ls (.ref a :: rest)) "java/lang/ClassCastException" tx) : W p l e R s m args below meth c H locs cells slots Q (F0 m pc ls (.ref a :: rest)) := by
  obtain ⟨cell, h1, h2, h3⟩ := ti_recvA (s := s) hP q0 ha hnC
  have h4 : cA = cell.cls := Option.some.inj (hnC.symm.trans h3)
  obtain ⟨c0, t0', f1, f2, f3⟩ := hc
  cases h3.symm.trans f1
  cases hnT.symm.trans f2
  obtain ⟨-, kC, hkC, comC, hkdC⟩ := (hK.2 t0 _ ht).1 0 (fun _ => .null)
  obtain ⟨-, kT, hkT, comT, hkdT⟩ := (hK.2 t1 _ ht1).1 0 (fun _ => .null)
  have hkC : s.vm.classes[cA]? = some kC := hkC
  have hkT : s.vm.classes[cB]? = some kT := hkT
  intro T hT X
  obtain ⟨vm', ks', kt', X', hal, g1, g2, st⟩ := ti_castFails X hexec hown hlink (by rw [hT]; exact h1) h2 (by rw [← h4]; exact hkC) hnT f3 (g := F0 m pc ls (.ref a :: rest)) rfl rfl (by rw [hb]; exact hdg)
  obtain ⟨k1, hk1, he1⟩ := hal.2.2 _ _ hkC
  obtain ⟨k2, hk2, he2⟩ := hal.2.2 _ _ hkT
  rw [← h4] at g1
  cases g1.symm.trans hk1
  cases g2.symm.trans hk2
  have hfC : vm'.findClass C = some cA := by rw [hal.findClass]; exact hnC
  have hfT : vm'.findClass nm = some cB := by rw [hal.findClass]; exact hnT
  obtain ⟨a1, a2, a3⟩ := ti_findA hfC g1
  obtain ⟨b1, b2, b3⟩ := ti_findA hfT g2
  have hpa : ks'.ofPrimitives = true := by
    have hk9 : ks'.kind = .array comC ty := by rw [he1]; exact hkdC
    unfold Class.ofPrimitives
    rw [hk9]
    show ((withoutBrackets ks'.name).length == 1) = true
    rw [a1]; exact hpC
  have hpb : kt'.ofPrimitives = true := by
    have hk9 : kt'.kind = .array comT tz := by rw [he2]; exact hkdT
    unfold Class.ofPrimitives
    rw [hk9]
    show ((withoutBrackets kt'.name).length == 1) = true
    rw [b1]; exact hpT
  obtain ⟨t, s1, q1⟩ := k (checkcast.message vm' ks' kt') (ti_msgA a1 b1 a2 b2 a3 b3 hpa hpb hdC hdT) (T.setVm vm') hT X'
  exact ⟨t, st t s1, q1⟩
end TCN
