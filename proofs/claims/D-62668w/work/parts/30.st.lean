/-! THE TWO DESKS' STATE: the fields and arrays of FunDesk (25) and FunDeskModel (40) as functions of the field's number, the other objects by address, and the small heap that they stand for -/
set_option maxRecDepth 100000
abbrev sS : Type := (Nat → Int32) × (Nat → Option Nat) × (Nat → Nat → Int32) × (Nat → Nat → Int64) × (Nat → Nat → UInt64) × (Nat → Nat → Option Nat) × (Nat → Option am_C) × Nat × Nat
def gI (D : sS) (q : Nat) : Int32 := D.1 q
def gR (D : sS) (q : Nat) : Option Nat := D.2.1 q
def gA (D : sS) (q j : Nat) : Int32 := D.2.2.1 q j
def gL (D : sS) (q j : Nat) : Int64 := D.2.2.2.1 q j
def gF (D : sS) (q j : Nat) : UInt64 := D.2.2.2.2.1 q j
def gQ (D : sS) (q j : Nat) : Option Nat := D.2.2.2.2.2.1 q j
def gG (D : sS) (a : Nat) : Option am_C := D.2.2.2.2.2.2.1 a
def gN (D : sS) : Nat := D.2.2.2.2.2.2.2.1
def gS (D : sS) : Nat := D.2.2.2.2.2.2.2.2
def sI (D : sS) (q : Nat) (v : Int32) : sS := (fun k => if k = q then v else D.1 k, D.2)
def sR (D : sS) (q : Nat) (v : Option Nat) : sS := (D.1, fun k => if k = q then v else D.2.1 k, D.2.2)
def sA (D : sS) (q j : Nat) (v : Int32) : sS := (D.1, D.2.1, fun k i => if k = q then (if i = j then v else D.2.2.1 k i) else D.2.2.1 k i, D.2.2.2)
def sL (D : sS) (q j : Nat) (v : Int64) : sS := (D.1, D.2.1, D.2.2.1, fun k i => if k = q then (if i = j then v else D.2.2.2.1 k i) else D.2.2.2.1 k i, D.2.2.2.2)
def sF (D : sS) (q j : Nat) (v : UInt64) : sS := (D.1, D.2.1, D.2.2.1, D.2.2.2.1, fun k i => if k = q then (if i = j then v else D.2.2.2.2.1 k i) else D.2.2.2.2.1 k i, D.2.2.2.2.2)
def sQ (D : sS) (q j : Nat) (v : Option Nat) : sS := (D.1, D.2.1, D.2.2.1, D.2.2.2.1, D.2.2.2.2.1, fun k i => if k = q then (if i = j then v else D.2.2.2.2.2.1 k i) else D.2.2.2.2.2.1 k i, D.2.2.2.2.2.2)
def sG (D : sS) (a : Nat) (x : am_C) : sS := (D.1, D.2.1, D.2.2.1, D.2.2.2.1, D.2.2.2.2.1, D.2.2.2.2.2.1, fun b => if b = a then some x else D.2.2.2.2.2.2.1 b, D.2.2.2.2.2.2.2)
def sN (D : sS) (x : am_C) (n : Nat) : sS := (D.1, D.2.1, D.2.2.1, D.2.2.2.1, D.2.2.2.2.1, D.2.2.2.2.2.1, fun b => if b = 82 + gN D then some x else D.2.2.2.2.2.2.1 b, gN D + 1, gS D + n)
def am_ur (v : Value) : Option Nat := match v with
  | .ref a => some a
  | _ => none
/-- the cells of the two desks -/
def fX (D : sS) : List Value := [.ref 26, .ref 27, .ref 28, .int (gI D 131), .int (gI D 132), .ref 29, .ref 30, .int (gI D 135), .int (gI D 136), .ref 31, .int (gI D 138), .ref 32, .int (gI D 140), .int (gI D 141), .int (gI D 142), .int (gI D 143), .ref 33, .ref 34, .ref 35, .int (gI D 147), va_rf (gR D 148), .ref 36, .ref 37, .ref 38, .ref 39, va_rf (gR D 153), .int (gI D 154), .int (gI D 155), .int (gI D 156), .int (gI D 157), .int (gI D 158), .int (gI D 159), .int (gI D 160), va_rf (gR D 161), va_rf (gR D 162), va_rf (gR D 163), .int (gI D 164), .int (gI D 165), va_rf (gR D 166), va_rf (gR D 167)]
def fM (D : sS) : List Value := [.int (gI D 512), .ref 41, .int (gI D 514), .int (gI D 515), .ref 42, .ref 43, .ref 44, .int (gI D 519), .ref 45, .ref 46, .ref 47, .int (gI D 523), .ref 48, .ref 49, .int (gI D 526), .ref 50, .ref 51, .ref 52, .ref 53, .ref 54, .ref 55, .int (gI D 533), .int (gI D 534), .int (gI D 535), .int (gI D 536), .ref 56, .ref 57, .ref 58, .ref 59, .ref 60, .int (gI D 542), .ref 61, .ref 62, .ref 63, .ref 64, .int (gI D 547), .ref 65, .int (gI D 549), .int (gI D 550), .int (gI D 551), .ref 66, .int (gI D 553), .ref 67, .int (gI D 555), .int (gI D 556), .int (gI D 557), .ref 68, .ref 69, .ref 70, .int (gI D 561), .ref 71, .int (gI D 563), .ref 72, .ref 73, .int (gI D 566), .ref 74, .ref 75, .int (gI D 569), .int (gI D 570), .ref 76, .ref 77, .int (gI D 573), .ref 78, .int (gI D 575), .int (gI D 576), .int (gI D 577), .int (gI D 578), .int (gI D 579), .int (gI D 580), .long (gL D 581 0), .int (gI D 582), .ref 79]
/-- the arrays: address, field, kind, length -/
def aT : List (Nat × Nat × Nat × Nat) := [(29, 133, 0, 80), (30, 134, 5, 80), (31, 137, 5, 240), (32, 139, 0, 60), (33, 144, 6, 400), (34, 145, 1, 400), (35, 146, 7, 400), (37, 150, 8, 200), (38, 151, 1, 501), (39, 152, 9, 501), (41, 513, 0, 60), (42, 516, 1, 124), (43, 517, 1, 124), (44, 518, 1, 124), (45, 520, 1, 124), (46, 521, 1, 124), (47, 522, 1, 124), (48, 524, 1, 80), (49, 525, 1, 80), (50, 527, 1, 80), (51, 528, 1, 80), (52, 529, 1, 180), (53, 530, 1, 180), (54, 531, 1, 180), (55, 532, 1, 180), (56, 537, 1, 124), (57, 538, 1, 124), (58, 539, 1, 64), (59, 540, 1, 64), (60, 541, 2, 64), (61, 543, 1, 1300), (62, 544, 1, 1300), (63, 545, 1, 1300), (64, 546, 1, 1300), (65, 548, 1, 120), (66, 552, 1, 60), (67, 554, 1, 260), (68, 558, 1, 160), (69, 559, 1, 220), (70, 560, 0, 80), (71, 562, 3, 200), (72, 564, 1, 502), (73, 565, 1, 502), (74, 567, 3, 4300), (75, 568, 1, 4300), (76, 571, 3, 502), (77, 572, 3, 502), (78, 574, 4, 502), (79, 583, 3, 80), (80, 9001, 3, 1), (81, 9002, 4, 1)]
def aC (D : sS) (q κ n : Nat) : am_C := if κ < 3 then .inl (κ, n, fun j => .int (gA D q j)) else if κ = 3 then .inl (κ, n, fun j => .long (gL D q j)) else if κ = 4 then .inl (κ, n, fun j => .double (gF D q j)) else .inl (κ, n, fun j => va_rf (gQ D q j))
def tC (D : sS) (a : Nat) : Option am_C := if a < 6 then some (.inr (30, [.int (Int32.ofNat a)])) else if a < 24 then some (.inr (31, [.int (Int32.ofNat (a - 6))])) else if a = 24 then some (.inl (20, (gI D 9000).toNatClampNeg, fun j => .int (gA D 9000 j))) else if a = 25 then some (.inr (1, fX D)) else if a = 40 then some (.inr (4, fM D)) else (aT.lookup a).map (fun z => aC D z.1 z.2.1 z.2.2)
def isRec (a : Nat) : Bool := decide (a < 82) && !(a == 26 || a == 27 || a == 28 || a == 36)
def gO (D : sS) (a : Nat) : Option am_C := if isRec a = true then none else gG D a
def toH (D : sS) : am_H := (fun a => if isRec a = true then tC D a else gG D a, 82 + gN D, gS D)
section ST
variable {D : sS} {q q' j i n a b : Nat}
theorem gI_sI {v : Int32} : gI (sI D q v) q' = if q' = q then v else gI D q' := rfl
theorem gI_sR {v : Option Nat} : gI (sR D q v) q' = gI D q' := rfl
theorem gI_sA {v : Int32} : gI (sA D q j v) q' = gI D q' := rfl
theorem gI_sL {v : Int64} : gI (sL D q j v) q' = gI D q' := rfl
theorem gI_sF {v : UInt64} : gI (sF D q j v) q' = gI D q' := rfl
theorem gI_sQ {v : Option Nat} : gI (sQ D q j v) q' = gI D q' := rfl
theorem gI_sG {x : am_C} : gI (sG D a x) q' = gI D q' := rfl
theorem gI_sN {x : am_C} : gI (sN D x n) q' = gI D q' := rfl
theorem gR_sI {v : Int32} : gR (sI D q v) q' = gR D q' := rfl
theorem gR_sR {v : Option Nat} : gR (sR D q v) q' = if q' = q then v else gR D q' := rfl
theorem gR_sA {v : Int32} : gR (sA D q j v) q' = gR D q' := rfl
theorem gR_sL {v : Int64} : gR (sL D q j v) q' = gR D q' := rfl
theorem gR_sF {v : UInt64} : gR (sF D q j v) q' = gR D q' := rfl
theorem gR_sQ {v : Option Nat} : gR (sQ D q j v) q' = gR D q' := rfl
theorem gR_sG {x : am_C} : gR (sG D a x) q' = gR D q' := rfl
theorem gR_sN {x : am_C} : gR (sN D x n) q' = gR D q' := rfl
theorem gA_sI {v : Int32} : gA (sI D q v) q' i = gA D q' i := rfl
theorem gA_sR {v : Option Nat} : gA (sR D q v) q' i = gA D q' i := rfl
theorem gA_sA {v : Int32} : gA (sA D q j v) q' i = if q' = q then (if i = j then v else gA D q' i) else gA D q' i := rfl
theorem gA_sL {v : Int64} : gA (sL D q j v) q' i = gA D q' i := rfl
theorem gA_sF {v : UInt64} : gA (sF D q j v) q' i = gA D q' i := rfl
theorem gA_sQ {v : Option Nat} : gA (sQ D q j v) q' i = gA D q' i := rfl
theorem gA_sG {x : am_C} : gA (sG D a x) q' i = gA D q' i := rfl
theorem gA_sN {x : am_C} : gA (sN D x n) q' i = gA D q' i := rfl
theorem gL_sI {v : Int32} : gL (sI D q v) q' i = gL D q' i := rfl
theorem gL_sR {v : Option Nat} : gL (sR D q v) q' i = gL D q' i := rfl
theorem gL_sA {v : Int32} : gL (sA D q j v) q' i = gL D q' i := rfl
theorem gL_sL {v : Int64} : gL (sL D q j v) q' i = if q' = q then (if i = j then v else gL D q' i) else gL D q' i := rfl
theorem gL_sF {v : UInt64} : gL (sF D q j v) q' i = gL D q' i := rfl
theorem gL_sQ {v : Option Nat} : gL (sQ D q j v) q' i = gL D q' i := rfl
theorem gL_sG {x : am_C} : gL (sG D a x) q' i = gL D q' i := rfl
theorem gL_sN {x : am_C} : gL (sN D x n) q' i = gL D q' i := rfl
theorem gF_sI {v : Int32} : gF (sI D q v) q' i = gF D q' i := rfl
theorem gF_sR {v : Option Nat} : gF (sR D q v) q' i = gF D q' i := rfl
theorem gF_sA {v : Int32} : gF (sA D q j v) q' i = gF D q' i := rfl
theorem gF_sL {v : Int64} : gF (sL D q j v) q' i = gF D q' i := rfl
theorem gF_sF {v : UInt64} : gF (sF D q j v) q' i = if q' = q then (if i = j then v else gF D q' i) else gF D q' i := rfl
theorem gF_sQ {v : Option Nat} : gF (sQ D q j v) q' i = gF D q' i := rfl
theorem gF_sG {x : am_C} : gF (sG D a x) q' i = gF D q' i := rfl
theorem gF_sN {x : am_C} : gF (sN D x n) q' i = gF D q' i := rfl
theorem gQ_sI {v : Int32} : gQ (sI D q v) q' i = gQ D q' i := rfl
theorem gQ_sR {v : Option Nat} : gQ (sR D q v) q' i = gQ D q' i := rfl
theorem gQ_sA {v : Int32} : gQ (sA D q j v) q' i = gQ D q' i := rfl
theorem gQ_sL {v : Int64} : gQ (sL D q j v) q' i = gQ D q' i := rfl
theorem gQ_sF {v : UInt64} : gQ (sF D q j v) q' i = gQ D q' i := rfl
theorem gQ_sQ {v : Option Nat} : gQ (sQ D q j v) q' i = if q' = q then (if i = j then v else gQ D q' i) else gQ D q' i := rfl
theorem gQ_sG {x : am_C} : gQ (sG D a x) q' i = gQ D q' i := rfl
theorem gQ_sN {x : am_C} : gQ (sN D x n) q' i = gQ D q' i := rfl
theorem gN_sI {v : Int32} : gN (sI D q v) = gN D := rfl
theorem gN_sR {v : Option Nat} : gN (sR D q v) = gN D := rfl
theorem gN_sA {v : Int32} : gN (sA D q j v) = gN D := rfl
theorem gN_sL {v : Int64} : gN (sL D q j v) = gN D := rfl
theorem gN_sF {v : UInt64} : gN (sF D q j v) = gN D := rfl
theorem gN_sQ {v : Option Nat} : gN (sQ D q j v) = gN D := rfl
theorem gN_sG {x : am_C} : gN (sG D a x) = gN D := rfl
theorem gN_sN {x : am_C} : gN (sN D x n) = gN D + 1 := rfl
theorem gS_sI {v : Int32} : gS (sI D q v) = gS D := rfl
theorem gS_sR {v : Option Nat} : gS (sR D q v) = gS D := rfl
theorem gS_sA {v : Int32} : gS (sA D q j v) = gS D := rfl
theorem gS_sL {v : Int64} : gS (sL D q j v) = gS D := rfl
theorem gS_sF {v : UInt64} : gS (sF D q j v) = gS D := rfl
theorem gS_sQ {v : Option Nat} : gS (sQ D q j v) = gS D := rfl
theorem gS_sG {x : am_C} : gS (sG D a x) = gS D := rfl
theorem gS_sN {x : am_C} : gS (sN D x n) = gS D + n := rfl
theorem gO_sI {v : Int32} : gO (sI D q v) b = gO D b := rfl
theorem gO_sR {v : Option Nat} : gO (sR D q v) b = gO D b := rfl
theorem gO_sA {v : Int32} : gO (sA D q j v) b = gO D b := rfl
theorem gO_sL {v : Int64} : gO (sL D q j v) b = gO D b := rfl
theorem gO_sF {v : UInt64} : gO (sF D q j v) b = gO D b := rfl
theorem gO_sQ {v : Option Nat} : gO (sQ D q j v) b = gO D b := rfl
theorem isRec_new : isRec (82 + n) = false := by
  unfold isRec
  rw [decide_eq_false (by omega)]
  rfl
theorem gO_sN {x : am_C} : gO (sN D x n) b = if b = 82 + gN D then some x else gO D b := by
  unfold gO
  by_cases e : b = 82 + gN D
  · rw [if_pos e, e, isRec_new]
    show (if (82 + gN D = 82 + gN D) then some x else gG D (82 + gN D)) = some x
    rw [if_pos rfl]
  · rw [if_neg e]
    by_cases e2 : isRec b = true
    · rw [if_pos e2, if_pos e2]
    · rw [if_neg e2, if_neg e2]
      show (if b = 82 + gN D then some x else gG D b) = gG D b
      rw [if_neg e]
theorem gO_rec {x : am_C} (h : gO D a = some x) : isRec a = false ∧ gG D a = some x := by
  unfold gO at h
  by_cases e : isRec a = true
  · rw [if_pos e] at h; cases h
  · rw [if_neg e] at h; exact ⟨by cases hz : isRec a <;> simp_all, h⟩
theorem gO_sG {x y : am_C} (h : gO D a = some y) : gO (sG D a x) b = if b = a then some x else gO D b := by
  obtain ⟨h1, h2⟩ := gO_rec h
  unfold gO
  by_cases e : b = a
  · subst e
    rw [h1, if_neg (by decide), if_pos rfl]
    show (if b = b then some x else _) = some x
    rw [if_pos rfl]
  · rw [if_neg e]
    by_cases e2 : isRec b = true
    · rw [if_pos e2, if_pos e2]
    · rw [if_neg e2, if_neg e2]
      show (if b = a then some x else gG D b) = gG D b
      rw [if_neg e]
theorem toH_g {x : am_C} (h : gO D a = some x) : (toH D).1 a = some x := by
  obtain ⟨h1, h2⟩ := gO_rec h
  show (if isRec a = true then tC D a else gG D a) = some x
  rw [h1, if_neg (by decide)]; exact h2
theorem toH_up {x y : am_C} (h : gO D a = some y) : am_up (toH D) a x = toH (sG D a x) := by
  obtain ⟨h1, h2⟩ := gO_rec h
  refine Prod.ext (funext fun b => ?_) rfl
  show (if b = a then some x else if isRec b = true then tC D b else gG D b) = if isRec b = true then tC (sG D a x) b else if b = a then some x else gG D b
  by_cases e : b = a
  · subst e; rw [if_pos rfl, h1, if_neg (by decide), if_pos rfl]
  · rw [if_neg e, if_neg e]; rfl
theorem toH_nw {x : am_C} : am_nw (toH D) x n = toH (sN D x n) := by
  refine Prod.ext (funext fun b => ?_) rfl
  show (if b = 82 + gN D then some x else if isRec b = true then tC D b else gG D b) = if isRec b = true then tC (sN D x n) b else if b = 82 + gN D then some x else gG D b
  by_cases e : b = 82 + gN D
  · rw [if_pos e, e, isRec_new, if_neg (by decide), if_pos rfl]
  · rw [if_neg e, if_neg e]; rfl
/-- a field of a desk is written -/
theorem toH_upX {D' : sS} {a : Nat} {x : am_C} (ha : isRec a = true) (h1 : tC D' a = some x) (h2 : ∀ b, b ≠ a → tC D' b = tC D b) (h3 : gG D' = gG D) (h4 : gN D' = gN D) (h5 : gS D' = gS D) : am_up (toH D) a x = toH D' := by
  refine Prod.ext (funext fun b => ?_) (Prod.ext (by show 82 + gN D = 82 + gN D'; rw [h4]) (by show gS D = gS D'; rw [h5]))
  show (if b = a then some x else if isRec b = true then tC D b else gG D b) = if isRec b = true then tC D' b else gG D' b
  by_cases e : b = a
  · subst e; rw [if_pos rfl, if_pos ha, h1]
  · rw [if_neg e, h2 b e, h3]
end ST
