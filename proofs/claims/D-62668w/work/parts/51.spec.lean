/-! THE READER that both desks follow -/
set_option maxRecDepth 100000
abbrev tE : Type := Lean.Grind.CommRing.Expr
/-- the character at a place; 0 behind the end -/
def hr (tx : Nat → Int32) (n p : Nat) : Int32 := if p < n then tx p else 0
/-- spaces are passed -/
def skF (tx : Nat → Int32) (n : Nat) : Nat → Nat → Nat
  | 0, p => p
  | k + 1, p => if p < n ∧ tx p = 32 then skF tx n k (p + 1) else p
def sk (tx : Nat → Int32) (n p : Nat) : Nat := skF tx n (n - p) p
section SP
variable {tx : Nat → Int32} {n p : Nat}
theorem hr_sp : hr tx n p = 32 ↔ p < n ∧ tx p = 32 := by
  unfold hr
  split
  · rename_i h; exact ⟨fun z => ⟨h, z⟩, fun z => z.2⟩
  · rename_i h; exact ⟨fun z => absurd z (by decide), fun z => absurd z.1 h⟩
theorem sk_no (h : ¬ hr tx n p = 32) : sk tx n p = p := by
  unfold sk
  rw [hr_sp] at h
  cases n - p with
  | zero => rfl
  | succ k => unfold skF; rw [if_neg h]
theorem sk_yes (h : hr tx n p = 32) : sk tx n p = sk tx n (p + 1) := by
  rw [hr_sp] at h
  unfold sk
  have e : n - p = (n - (p + 1)) + 1 := by omega
  rw [e]
  conv => lhs; unfold skF
  rw [if_pos h]
theorem skF_le : ∀ k p, p ≤ skF tx n k p := by
  intro k
  induction k with
  | zero => intro p; exact Nat.le_refl _
  | succ k ih =>
    intro p
    unfold skF
    split
    · have := ih (p + 1); omega
    · exact Nat.le_refl _
theorem skF_lt : ∀ k p, p ≤ n → skF tx n k p ≤ n := by
  intro k
  induction k with
  | zero => intro p h; exact h
  | succ k ih =>
    intro p h
    unfold skF
    split
    · rename_i z; exact ih (p + 1) z.1
    · exact h
theorem sk_le : p ≤ sk tx n p := skF_le _ _
theorem sk_lt (h : p ≤ n) : sk tx n p ≤ n := skF_lt _ _ h
theorem sk_id (h : n ≤ p) : sk tx n p = p := by
  unfold sk
  have e : n - p = 0 := by omega
  rw [e]
  rfl
theorem skF_sp : ∀ k p, n - p ≤ k → ¬ hr tx n (skF tx n k p) = 32 := by
  intro k
  induction k with
  | zero =>
    intro p h
    unfold skF
    rw [hr_sp]
    omega
  | succ k ih =>
    intro p h
    unfold skF
    split
    · rename_i z; exact ih (p + 1) (by omega)
    · rename_i z; rw [hr_sp]; exact z
theorem sk_sp : ¬ hr tx n (sk tx n p) = 32 := skF_sp _ _ (Nat.le_refl _)
theorem sk_sk : sk tx n (sk tx n p) = sk tx n p := sk_no sk_sp
end SP
def dg (c : Int32) : Bool := !decide (c < 48) && !decide (57 < c)
def lt (c : Int32) : Bool := !decide (c < 97) && !decide (122 < c)
def bg (c : Int32) : Bool := dg c || lt c || c == 84 || c == 70 || c == 82 || c == 73 || c == 126 || c == 91 || c == 40
/-- digits, at most so many and one more: their number, how many, the place behind -/
def dgF (tx : Nat → Int32) (n most : Nat) : Nat → Nat → Int32 → Nat → Int32 × Nat × Nat
  | 0, p, v, k => (v, k, p)
  | f + 1, p, v, k => if dg (hr tx n p) = true ∧ k ≤ most then dgF tx n most f (p + 1) (10 * v + hr tx n p - 48) (k + 1) else (v, k, p)
/-- digits: none if there are none or too many -/
def dgs (tx : Nat → Int32) (n most p : Nat) : Option (Int32 × Nat) := match dgF tx n most (most + 2) p 0 0 with
  | (v, k, p') => if k = 0 ∨ most < k then none else some (v, p')
def sgn (tx : Nat → Int32) (n k p : Nat) : Int32 × Nat :=
  if (if k = 0 then hr tx n (sk tx n p) == 60 || hr tx n (sk tx n p) == 61 else if k = 1 then hr tx n (sk tx n p) == 43 || hr tx n (sk tx n p) == 45 else hr tx n (sk tx n p) == 42 || hr tx n (sk tx n p) == 47) = true then
    (if hr tx n (sk tx n p + 1) = 46 ∧ ¬ hr tx n (sk tx n p) = 61 then (hr tx n (sk tx n p) + 128, sk tx n p + 2) else (hr tx n (sk tx n p), sk tx n p + 1))
  else (0, sk tx n p)
/-- trees: expressions, clauses, patterns (a type of core Lean that has the shapes) -/
def ePlain (op a : Nat) : tE := .pow (.natCast a) op
def eName (c : Nat) : tE := .var c
def eFun (c : Nat) (b : tE) : tE := .pow (.neg b) c
def eApp (f a : tE) : tE := .mul f a
def eOp (s : Nat) (l r : tE) : tE := .pow (.add l r) s
def eNeg (r : tE) : tE := .neg r
def eIf (t y z : tE) : tE := .sub t (.add y z)
def eLet (c : Nat) (w i : tE) : tE := .pow (.sub w i) c
def eRec (c : Nat) (w i : tE) : tE := .pow (.mul w i) c
def eCase (w cl : tE) : tE := .add w cl
def cNil : tE := .natCast 0
def cCons (q e r : tE) : tE := .sub q (.sub e r)
def pAny (c : Nat) : tE := .var c
def pSame (k a : Nat) : tE := .pow (.natCast a) k
def pBoth (q r : tE) : tE := .mul q r
abbrev tR : Type := Option (Option (tE × Nat × Int32))
/-- out of fuel, no, or a tree, the place behind it and the names bound -/
def bd (x : tR) (f : tE → Nat → Int32 → tR) : tR := match x with
  | none => none
  | some none => some none
  | some (some (e, p, b)) => f e p b
def rok (e : tE) (p : Nat) (b : Int32) : tR := some (some (e, p, b))
def rno : tR := some none
/-- a character is eaten -/
def et (tx : Nat → Int32) (n : Nat) (c : Int32) (p : Nat) (f : Nat → tR) : tR := if hr tx n (sk tx n p) = c then f (sk tx n p + 1) else rno
def nat (c : Int32) : Nat := c.toNatClampNeg
/-- the reader: what is read (0 EXPR, 1 CONS, 2 COMPARE, 3 SUM, 4 PRODUCT, 5 APPLY, 6 ATOM, 7 PATTERN, 8 PART; 9 clauses, 13 14 15 loops), place, depth, names bound, what was read -/
def PR (tx : Nat → Int32) (n : Nat) : Nat → Nat → Nat → Nat → Int32 → tE → tR
  | 0, _, _, _, _, _ => none
  | f + 1, g, p, dep, bn, acc => match g with
    | 0 => if 16 < dep + 1 then rno else
        (if hr tx n (sk tx n p) = 63 then
          bd (PR tx n f 0 (sk tx n p + 1) (dep + 1) 0 acc) fun t p1 _ => et tx n 58 p1 fun p2 => bd (PR tx n f 0 p2 (dep + 1) 0 acc) fun y p3 _ => et tx n 124 p3 fun p4 => bd (PR tx n f 0 p4 (dep + 1) 0 acc) fun z p5 _ => rok (eIf t y z) p5 0
        else if hr tx n (sk tx n p) = 35 then
          bd (PR tx n f 0 (sk tx n p + 1) (dep + 1) 0 acc) fun w p1 _ => et tx n 123 p1 fun p2 => bd (PR tx n f 9 p2 (dep + 1) 0 (.natCast 0)) fun cl p3 _ => et tx n 125 p3 fun p4 => rok (eCase w cl) p4 0
        else if hr tx n (sk tx n p) = 92 ∨ hr tx n (sk tx n p) = 33 ∨ hr tx n (sk tx n p) = 64 then
          (if lt (hr tx n (sk tx n (sk tx n p + 1))) = true then
            (if hr tx n (sk tx n p) = 92 then
              et tx n 46 (sk tx n (sk tx n p + 1) + 1) fun p2 => bd (PR tx n f 0 p2 (dep + 1) 0 acc) fun b p3 _ => rok (eFun (nat (hr tx n (sk tx n (sk tx n p + 1)))) b) p3 0
            else et tx n 61 (sk tx n (sk tx n p + 1) + 1) fun p2 =>
              (if hr tx n (sk tx n p) = 64 then
                (if hr tx n (sk tx n p2) = 92 then bd (PR tx n f 0 (sk tx n p2) (dep + 1) 0 acc) fun w p3 _ => et tx n 59 p3 fun p4 => bd (PR tx n f 0 p4 (dep + 1) 0 acc) fun i p5 _ => rok (eRec (nat (hr tx n (sk tx n (sk tx n p + 1)))) w i) p5 0 else rno)
              else bd (PR tx n f 0 p2 (dep + 1) 0 acc) fun w p3 _ => et tx n 59 p3 fun p4 => bd (PR tx n f 0 p4 (dep + 1) 0 acc) fun i p5 _ => rok (eLet (nat (hr tx n (sk tx n (sk tx n p + 1)))) w i) p5 0))
          else rno)
        else PR tx n f 1 (sk tx n p) (dep + 1) 0 acc)
    | 1 => bd (PR tx n f 2 p dep 0 acc) fun e p1 _ => if hr tx n (sk tx n p1) = 44 then bd (PR tx n f 1 (sk tx n p1 + 1) dep 0 acc) fun r p2 _ => rok (eOp 44 e r) p2 0 else rok e (sk tx n p1) 0
    | 2 => bd (PR tx n f 3 p dep 0 acc) fun e p1 _ => if (sgn tx n 0 p1).1 = 0 then rok e (sgn tx n 0 p1).2 0 else bd (PR tx n f 3 (sgn tx n 0 p1).2 dep 0 acc) fun r p2 _ => rok (eOp (nat (sgn tx n 0 p1).1) e r) p2 0
    | 3 => bd (PR tx n f 4 p dep 0 acc) fun e p1 _ => PR tx n f 13 p1 dep 0 e
    | 13 => if (sgn tx n 1 p).1 = 0 then rok acc (sgn tx n 1 p).2 0 else bd (PR tx n f 4 (sgn tx n 1 p).2 dep 0 acc) fun r p1 _ => PR tx n f 13 p1 dep 0 (eOp (nat (sgn tx n 1 p).1) acc r)
    | 4 => bd (PR tx n f 5 p dep 0 acc) fun e p1 _ => PR tx n f 14 p1 dep 0 e
    | 14 => if (sgn tx n 2 p).1 = 0 then rok acc (sgn tx n 2 p).2 0 else bd (PR tx n f 5 (sgn tx n 2 p).2 dep 0 acc) fun r p1 _ => PR tx n f 14 p1 dep 0 (eOp (nat (sgn tx n 2 p).1) acc r)
    | 5 => bd (PR tx n f 6 p dep 0 acc) fun e p1 _ => PR tx n f 15 p1 dep 0 e
    | 15 => if bg (hr tx n (sk tx n p)) = true then bd (PR tx n f 6 (sk tx n p) dep 0 acc) fun a p1 _ => PR tx n f 15 p1 dep 0 (eApp acc a) else rok acc (sk tx n p) 0
    | 6 => if bg (hr tx n (sk tx n p)) = true then
        (if dg (hr tx n (sk tx n p)) = true then (match dgs tx n 4 (sk tx n p) with
          | none => rno
          | some (v, p1) => if hr tx n p1 = 46 then (match dgs tx n 3 (p1 + 1) with
            | none => rno
            | some (w, p2) => rok (ePlain 2 (1000 * nat v + nat w * 10 ^ (3 - (p2 - (p1 + 1))))) p2 0) else rok (ePlain 0 (nat v)) p1 0)
        else if hr tx n (sk tx n p) = 84 then rok (ePlain 1 1) (sk tx n p + 1) 0
        else if hr tx n (sk tx n p) = 70 then rok (ePlain 1 0) (sk tx n p + 1) 0
        else if hr tx n (sk tx n p) = 82 then rok (ePlain 4 82) (sk tx n p + 1) 0
        else if hr tx n (sk tx n p) = 73 then rok (ePlain 4 73) (sk tx n p + 1) 0
        else if hr tx n (sk tx n p) = 126 then bd (PR tx n f 6 (sk tx n p + 1) dep 0 acc) fun e p1 _ => rok (eNeg e) p1 0
        else if hr tx n (sk tx n p) = 91 then (if hr tx n (sk tx n p + 1) = 93 then rok (ePlain 3 0) (sk tx n p + 2) 0 else rno)
        else if hr tx n (sk tx n p) = 40 then bd (PR tx n f 0 (sk tx n p + 1) dep 0 acc) fun e p1 _ => et tx n 41 p1 fun p2 => rok e p2 0
        else rok (eName (nat (hr tx n (sk tx n p)))) (sk tx n p + 1) 0)
      else rno
    | 7 => if 16 < dep + 1 then rno else bd (PR tx n f 8 p (dep + 1) bn acc) fun e p1 b1 => if hr tx n (sk tx n p1) = 44 then bd (PR tx n f 7 (sk tx n p1 + 1) (dep + 1) b1 acc) fun r p2 b2 => rok (pBoth e r) p2 b2 else rok e (sk tx n p1) b1
    | 8 => if dg (hr tx n (sk tx n p)) = true then (match dgs tx n 4 (sk tx n p) with
          | none => rno
          | some (v, p1) => rok (pSame 2 (nat v)) p1 bn)
        else if hr tx n (sk tx n p) = 84 then rok (pSame 3 1) (sk tx n p + 1) bn
        else if hr tx n (sk tx n p) = 70 then rok (pSame 3 0) (sk tx n p + 1) bn
        else if hr tx n (sk tx n p) = 95 then rok (pAny 0) (sk tx n p + 1) bn
        else if hr tx n (sk tx n p) = 91 then (if hr tx n (sk tx n p + 1) = 93 then rok (pSame 4 0) (sk tx n p + 2) bn else rno)
        else if hr tx n (sk tx n p) = 40 then bd (PR tx n f 7 (sk tx n p + 1) dep bn acc) fun e p1 b1 => et tx n 41 p1 fun p2 => rok e p2 b1
        else if lt (hr tx n (sk tx n p)) = true then (if (bn >>> ((hr tx n (sk tx n p) - 97) &&& 31)) &&& 1 = 1 then rno else rok (pAny (nat (hr tx n (sk tx n p)))) (sk tx n p + 1) (bn ||| ((1 : Int32) <<< ((hr tx n (sk tx n p) - 97) &&& 31))))
        else rno
    | 9 => (match acc with
      | .natCast m => if 5 ≤ m then rno else bd (PR tx n f 7 p dep 0 acc) fun q p1 _ => et tx n 58 p1 fun p2 => bd (PR tx n f 0 p2 dep 0 acc) fun e p3 _ => if hr tx n (sk tx n p3) = 124 then bd (PR tx n f 9 (sk tx n p3 + 1) dep 0 (.natCast (m + 1))) fun r p4 _ => rok (cCons q e r) p4 0 else rok (cCons q e cNil) (sk tx n p3) 0
      | _ => rno)
    | _ => rno
