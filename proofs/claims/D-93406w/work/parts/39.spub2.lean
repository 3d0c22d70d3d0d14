/-! small facts for the public methods -/
set_option maxRecDepth 100000
theorem ti_nI_0 {w : Nat} (h : w < 2 ^ 31) : nI w = 0 ↔ w = 0 := nI_eq (b := 0) h (by decide)
theorem ti_nI_1 {w : Nat} (h : w < 2 ^ 31) : nI w = 1 ↔ w = 1 := nI_eq (b := 1) h (by decide)
theorem ti_nI_2 {w : Nat} (h : w < 2 ^ 31) : nI w = 2 ↔ w = 2 := nI_eq (b := 2) h (by decide)
theorem ti_nI_3 {w : Nat} (h : w < 2 ^ 31) : nI w = 3 ↔ w = 3 := nI_eq (b := 3) h (by decide)
theorem ti_nI_4 {w : Nat} (h : w < 2 ^ 31) : nI w = 4 ↔ w = 4 := nI_eq (b := 4) h (by decide)
theorem ti_fr_getD {ss ts lv : Nat → Nat} {n j : Nat} (h : j < n) : (ti_fr ss ts lv 0 n).getD j (0, 0, 0) = (ss j, ts j, lv j) := by
  rw [List.getD_eq_getElem?_getD, ti_fr_at h, Nat.zero_add]; rfl
theorem ti_F_len (x : ti_Mf) : (ti_F x).length = x.1 := ti_fr_len _ _ _ _ _
def ti_NO : Int64 := -9223372036854775808
def ti_Slacks (I : Nat → ti_GL) (v num den : Int32) : Int32 :=
  if ti_bt v = false then -1 else if (ti_bf num && ti_bf den) = false then -2 else if (I (ti_cl v)).length = 0 then -3 else nI (ti_lk (ti_FF (I (ti_cl v))) (ti_cl num) (ti_cl den) (List.range' 0 100) 0)
def ti_Sjump (I : Nat → ti_GL) (v a b p : Int32) : Int64 :=
  if (ti_bt v && (ti_b9 a && (ti_b9 b && ti_bt p))) = false then ti_NO else if (I (ti_cl v)).length = 0 then ti_NO else if (ti_jf (ti_cl a) (ti_cl b) (ti_FF (I (ti_cl v))) (0, 0)).2 = 0 then ti_NO
  else if p = 0 then lN (ti_low (ti_jf (ti_cl a) (ti_cl b) (ti_FF (I (ti_cl v))) (0, 0))).1 else lN (ti_low (ti_jf (ti_cl a) (ti_cl b) (ti_FF (I (ti_cl v))) (0, 0))).2
def ti_Sjumps (I : Nat → ti_GL) (v i p : Int32) : Int64 :=
  if (ti_bt v && ti_bt p) = false then ti_NO else if (I (ti_cl v)).length = 0 then ti_NO else if ti_lt i (ti_ml (ti_FF (I (ti_cl v))) (List.range' 0 100) []).length = false then ti_NO
  else if p = 0 then lN ((ti_ml (ti_FF (I (ti_cl v))) (List.range' 0 100) []).getD (ti_cl i) (0, 0)).1 else lN ((ti_ml (ti_FF (I (ti_cl v))) (List.range' 0 100) []).getD (ti_cl i) (0, 0)).2
def ti_Sodds (I : Nat → ti_GL) (v num den p : Int32) : Int64 :=
  if (ti_bt v && ((ti_bf num && ti_bf den) && ti_bt p)) = false then ti_NO else if (I (ti_cl v)).length = 0 then ti_NO
  else if p = 0 then lN (ti_low (100 - ti_lk (ti_FF (I (ti_cl v))) (ti_cl num) (ti_cl den) (List.range' 0 100) 0, 100)).1 else lN (ti_low (100 - ti_lk (ti_FF (I (ti_cl v))) (ti_cl num) (ti_cl den) (List.range' 0 100) 0, 100)).2
def ti_Smean (I : Nat → ti_GL) (v p : Int32) : Int64 :=
  if (ti_bt v && ti_bt p) = false then ti_NO else if (I (ti_cl v)).length = 0 then ti_NO
  else if p = 0 then lN (ti_low (ti_pw (I (ti_cl v)) 0, (I (ti_cl v)).length)).1 else lN (ti_low (ti_pw (I (ti_cl v)) 0, (I (ti_cl v)).length)).2
def ti_Sheight (I : Nat → ti_GL) (v w a : Int32) : Int32 :=
  if (ti_bt v && (ti_in w (nI 0) (nI 2) || ti_in w (nI 10) (nI 16))) = false then -1 else if ti_in a (nI 0) (nI 60) = false then -2
  else if w = 0 then ti_hx (ti_pfx (ti_pn (I (ti_cl v)) 1) (ti_cl a)) else if w = 1 then ti_sh2 (ti_pfx (ti_pn (I 0) 1) (ti_cl a)) (ti_pfx (ti_pn (I 1) 1) (ti_cl a))
  else if w = 2 then ti_hx (ti_pfx (ti_tm (ti_pn (I 0) 1) (I 1)) (ti_cl a)) else ti_hx (ti_pfx (ti_pn (I (ti_cl v)) (ti_cl w - 10)) (ti_cl a))
def ti_red (I : Nat → ti_GL) : Bool := if (I 0).length = 0 ∨ (I 1).length = 0 then false else ti_all1 (I 1) (I 0) && ti_all2 (ti_FF (I 0)) (I 1)
def ti_mt (I : Nat → ti_GL) : List Nat → Int32
  | [] => -5
  | r :: rest => if ti_eq (ti_pfx (ti_tm (ti_pn (I 1) r) (I 0))) (ti_pfx (ti_pn (I 1) (r + 1))) (List.range' 0 72) = true then nI r else ti_mt I rest
def ti_Sreduces (I : Nat → ti_GL) (w : Int32) : Int32 := if ti_bt w = false then -1 else if w = 0 then ti_b (ti_red I) else ti_mt I (List.range' 0 6)
def ti_Ssee (SN : List (Nat × Nat × Nat)) (i num den : Int32) : Int32 × List (Nat × Nat × Nat) :=
  if i = -1 then (0, []) else if ti_in i (nI 0) (nI 99) = false then (-1, SN) else if (ti_bf num && ti_bf den) = false then (-2, SN) else if SN.length = 4 then (-4, SN) else (nI (SN.length + 1), SN ++ [(ti_cl i, ti_cl num, ti_cl den)])
def ti_may (w d : Int32) : Bool := if w = 0 then ti_in d (nI 0) (nI 99) else if w = 1 then ti_in d (nI 0) (nI 5) else ti_in d (nI 1) (nI 9)
def ti_Sevent (EV : ti_GL) (w d : Int32) : Int32 × ti_GL :=
  if w = -1 then (0, []) else if ti_in w (nI 0) (nI 2) = false then (-1, EV) else if ti_may w d = false then (-2, EV) else if EV.length = 8 then (-4, EV) else (nI (EV.length + 1), EV ++ [(ti_cl w, ti_cl d)])
def ti_Sbook (BK : ti_GL) (t z : Int32) : Int32 × ti_GL :=
  if t = -1 then (0, []) else if ti_in t (nI 0) (nI 99) = false then (-1, BK) else if ti_bt z = false then (-2, BK) else if BK.length = 8 then (-4, BK) else (nI (BK.length + 1), BK ++ [(ti_cl t, ti_cl z)])
def ti_lkd (G : ti_GL) : ti_GL → Nat → Int32
  | [], _ => -5
  | q :: r, k => if ti_b (ti_hb (q.1 / 10) (q.1 % 10) (-5) G 0) = nI q.2 then ti_lkd G r (k + 1) else nI k
/-- whether all that was seen is so of generators -/
def ti_seen (G : ti_GL) (SN : List (Nat × Nat × Nat)) : Bool := if SN.length = 0 then true else if G.length = 0 then false else ti_so (ti_ml (ti_FF G) (List.range' 0 100) []) SN
/-- an ideal's k-th generator with one power put -/
def ti_ft (g : ti_GL) (k : Nat) (letter : Nat) (z : Nat) : Nat × Nat := (if letter = 0 then z else (g.getD k (0, 0)).1, if letter = 1 then z else (g.getD k (0, 0)).2)
def ti_ftok (I : Nat → ti_GL) (SN : List (Nat × Nat × Nat)) (i k letter z : Nat) : Bool :=
  (decide (ti_ft (I i) k letter z = (I i).getD k (0, 0)) || decide (ti_ft (I i) k letter z ∉ I i)) && ti_seen (if i = 0 then (I 0).set k (ti_ft (I i) k letter z) else I 0) SN
def ti_ftn (I : Nat → ti_GL) (SN : List (Nat × Nat × Nat)) (i k letter : Nat) : List Nat → Nat × Int32 → Nat × Int32
  | [], x => x
  | z :: r, x => ti_ftn I SN i k letter r (if ti_ftok I SN i k letter z = true then (x.1 + 1, if x.1 = 0 then nI z else x.2) else x)
def ti_Sfits (I : Nat → ti_GL) (SN : List (Nat × Nat × Nat)) (v k letter w : Int32) : Int32 :=
  if (ti_bt v && ti_lt k (I (ti_cl v)).length && (ti_bt letter && ti_bt w)) = false then -1 else if w = 0 then nI (ti_ftn I SN (ti_cl v) (ti_cl k) (ti_cl letter) (List.range' 0 10) (0, -5)).1 else (ti_ftn I SN (ti_cl v) (ti_cl k) (ti_cl letter) (List.range' 0 10) (0, -5)).2
def ti_ev (G : ti_GL) : ti_GL → ti_GL
  | [] => G
  | q :: r => ti_ev (ti_hp q.1 q.2 G) r
def ti_Safter (G EV : ti_GL) (w : Int32) : Int32 :=
  if ti_in w (nI 0) (nI 2) = false then -1 else if w = 0 then nI (ti_ev G EV).length else if (ti_ev G EV).length = 0 then -3 else ti_Sask (ti_ev G EV) (if w = 1 then 4 else 3)
