/-! the law's start: tables, statics, what can't be cast (printed by w_start.py) -/
set_option maxRecDepth 100000

def ti_m16 {α : Type} (x0 x1 x2 x3 x4 x5 x6 x7 x8 x9 x10 x11 x12 x13 x14 x15 : α) : Nat → α
  | 0 => x0
  | 1 => x1
  | 2 => x2
  | 3 => x3
  | 4 => x4
  | 5 => x5
  | 6 => x6
  | 7 => x7
  | 8 => x8
  | 9 => x9
  | 10 => x10
  | 11 => x11
  | 12 => x12
  | 13 => x13
  | 14 => x14
  | _ => x15

def ti_m8 {α : Type} (x0 x1 x2 x3 x4 x5 x6 x7 : α) : Nat → α
  | 0 => x0
  | 1 => x1
  | 2 => x2
  | 3 => x3
  | 4 => x4
  | 5 => x5
  | 6 => x6
  | _ => x7

theorem ti_nwOf {w : Cond} {args : Array Value} {s : State} (hk : ti_kind w = true) (h : w.before args s = true) : va_Nw w s := by
  match w, hk with
  | .fieldLinkNest .., _ => exact va_Nw.of rfl h
  | .methodLinkNest .., _ => exact va_Nw.of rfl h
  | .castable .., _ => exact va_Nw.of rfl h
  | .declares .., _ => exact va_Nw.of rfl h
  | .arrayOver (.object _), _ => exact h
theorem ti_arrOf {U : State} {c : ClassId} {k : Class} {com : ClassId} {ty : FieldType} (h1 : U.vm.classes[c]? = some k) (h2 : k.kind = .array com ty) : ArrOfT U c ty := fun _ _ => ⟨(fun _ z => by cases z), k, h1, com, h2⟩

theorem ti_Eof {args : Array Value} {s : State} (hts : ∀ w ∈ lw_tbl, w.before args s = true) : ∃ (D : va_G) (E : Nat → ClassId), ti_E D E s := by
  have hall : ∀ w ∈ lw_all, w.before args s = true := fun w hw => hts w (lw_all_tbl hw)
  obtain ⟨c0, i0, h0⟩ := u_known hall in_X0 (hall _ q95)
  obtain ⟨c1, i1, h1⟩ := u_known hall in_X1 (hall _ q104)
  obtain ⟨c2, i2, h2⟩ := u_known hall in_X2 (hall _ q127)
  obtain ⟨c3, i3, h3⟩ := u_known hall in_X3 (hall _ q172)
  obtain ⟨c4, i4, h4⟩ := u_known hall in_X4 (hall _ q191)
  obtain ⟨c5, i5, h5⟩ := u_known hall in_X5 (hall _ q202)
  obtain ⟨c6, i6, h6⟩ := u_known hall in_X6 (hall _ q227)
  obtain ⟨c7, i7, h7⟩ := u_known hall in_X7 (hall _ q1083)
  obtain ⟨c8, i8, h8⟩ := u_known hall in_X8 (hall _ q362)
  obtain ⟨c9, i9, h9⟩ := u_known hall in_X9 (hall _ q485)
  obtain ⟨c10, i10, h10⟩ := u_known hall in_X10 (hall _ q526)
  obtain ⟨c11, i11, h11⟩ := u_known hall in_X11 (hall _ q544)
  obtain ⟨c12, i12, h12⟩ := u_known hall in_X12 (hall _ q665)
  obtain ⟨c13, i13, h13⟩ := u_known hall in_X13 (hall _ q656)
  obtain ⟨c14, i14, h14⟩ := u_known hall in_X14 (hall _ q699)
  obtain ⟨c15, i15, h15⟩ := u_known hall in_X15 (hall _ q1025)
  obtain ⟨a0, k0, m0, p0, r0, s0⟩ := Cond.arrayClass_spec (hall _ q125)
  obtain ⟨a1, k1, m1, p1, r1, s1⟩ := Cond.arrayClass_spec (hall _ q224)
  obtain ⟨a2, k2, m2, p2, r2, s2⟩ := Cond.arrayClass_spec (hall _ q1012)
  obtain ⟨a3, k3, m3, p3, r3, s3⟩ := Cond.arrayClass_spec (hall _ q1013)
  obtain ⟨a4, k4, m4, p4, r4, s4⟩ := Cond.arrayClass_spec (hall _ q1014)
  obtain ⟨m5, a5, k5, e5, -, r5, s5, p5⟩ := Cond.arrayOver_spec (hts _ q103)
  obtain ⟨m6, a6, k6, e6, -, r6, s6, p6⟩ := Cond.arrayOver_spec (hts _ q226)
  obtain ⟨m7, a7, k7, e7, -, r7, s7, p7⟩ := Cond.arrayOver_spec (hts _ q491)
  refine ⟨(ti_m16 c0 c1 c2 c3 c4 c5 c6 c7 c8 c9 c10 c11 c12 c13 c14 c15, ti_m16 i0 i1 i2 i3 i4 i5 i6 i7 i8 i9 i10 i11 i12 i13 i14 i15), ti_m8 a0 a1 a2 a3 a4 a5 a6 a7, ⟨?_, ?_⟩, fun w hw => ti_nwOf (List.mem_filter.mp hw).2 (hts w (List.mem_filter.mp hw).1)⟩
  · intro c q hq
    match c, hq with
    | 0, hq => cases hq; exact h0
    | 1, hq => cases hq; exact h1
    | 2, hq => cases hq; exact h2
    | 3, hq => cases hq; exact h3
    | 4, hq => cases hq; exact h4
    | 5, hq => cases hq; exact h5
    | 6, hq => cases hq; exact h6
    | 7, hq => cases hq; exact h7
    | 8, hq => cases hq; exact h8
    | 9, hq => cases hq; exact h9
    | 10, hq => cases hq; exact h10
    | 11, hq => cases hq; exact h11
    | 12, hq => cases hq; exact h12
    | 13, hq => cases hq; exact h13
    | 14, hq => cases hq; exact h14
    | 15, hq => cases hq; exact h15
    | n + 16, hq => cases hq
  · intro k q hq
    match k, hq with
    | 0, hq => cases hq; exact ⟨ti_arrOf r0 s0, p0⟩
    | 1, hq => cases hq; exact ⟨ti_arrOf r1 s1, p1⟩
    | 2, hq => cases hq; exact ⟨ti_arrOf r2 s2, p2⟩
    | 3, hq => cases hq; exact ⟨ti_arrOf r3 s3, p3⟩
    | 4, hq => cases hq; exact ⟨ti_arrOf r4 s4, p4⟩
    | 5, hq => cases hq; exact ⟨ti_arrOf r5 s5, k5, m5, r5, s5, e5, p5⟩
    | 6, hq => cases hq; exact ⟨ti_arrOf r6 s6, k6, m6, r6, s6, e6, p6⟩
    | 7, hq => cases hq; exact ⟨ti_arrOf r7 s7, k7, m7, r7, s7, e7, p7⟩
    | n + 8, hq => cases hq

theorem ti_NCof {args : Array Value} {s : State} (h : (Jvm.Cond.and given_1 narrow_1).before args s = true) : ti_NC s := by
  have hs := flat_of_before _ h
  intro C T hm
  have hall : ∀ q ∈ ti_ncs, va_Nc q.1 q.2 s := by
    intro q hq
    have h9 : ∀ q ∈ ti_ncs, Cond.not (.castable q.1 q.2) ∈ flatC (Jvm.Cond.and given_1 narrow_1) := by decide +kernel
    exact va_Nc.of (hs _ (h9 q hq))
  exact hall (C, T) hm
theorem ti_Zof {args : Array Value} {s : State} (hts : ∀ w ∈ lw_tbl, w.before args s = true) (h : (Jvm.Cond.and given_1 narrow_1).before args s = true) : ti_Z s.heap.size [] s := by
  have hs := flat_of_before _ h
  refine ⟨vx_Zqof (hts _ q386) (hts _ (lw_all_tbl q75)) (hs _ (by decide +kernel)) (fun a h1 h2 => absurd h1 (Nat.not_lt.mpr h2)), vx_Zqof (hts _ q388) (hts _ (lw_all_tbl q75)) (hs _ (by decide +kernel)) (fun a h1 h2 => absurd h1 (Nat.not_lt.mpr h2)), fun k q hq => absurd hq (by simp), Nat.le_refl _, ti_NCof h⟩
