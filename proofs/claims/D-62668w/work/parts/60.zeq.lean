/-! THE READER, one equation a goal -/
set_option maxRecDepth 100000
section PQ
variable {tx : Nat → Int32} {n p dep f : Nat} {bn : Int32} {acc : tE}
theorem PR_0 : PR tx n (f + 1) 0 p dep bn acc = (if 16 < dep + 1 then rno else
        (if hr tx n (sk tx n p) = 63 then
          bd (PR tx n f 0 (sk tx n p + 1) (dep + 1) 0 acc) fun t p1 _ => et tx n 58 p1 fun p2 => bd (PR tx n f 0 p2 (dep + 1) 0 acc) fun y p3 _ => et tx n 124 p3 fun p4 => bd (PR tx n f 0 p4 (dep + 1) 0 acc) fun z p5 _ => rok (eIf t y z) p5 0
        else if hr tx n (sk tx n p) = 35 then
          bd (PR tx n f 0 (sk tx n p + 1) (dep + 1) 0 acc) fun w p1 _ => et tx n 123 p1 fun p2 => bd (PR tx n f 9 p2 (dep + 1) 0 (.natCast 0)) fun cl p3 _ => et tx n 125 p3 fun p4 => rok (eCase w cl) p4 0
        else if hr tx n (sk tx n p) = 92 ∨ hr tx n (sk tx n p) = 33 ∨ hr tx n (sk tx n p) = 64 then
          (if lt (hr tx n (sk tx n (sk tx n p + 1))) = true then
            (if hr tx n (sk tx n p) = 92 then
              et tx n 46 (sk tx n (sk tx n p + 1) + 1) fun p2 => bd (PR tx n f 0 p2 (dep + 1) 0 acc) fun b p3 _ => rok (eFun (nat (hr tx n (sk tx n (sk tx n p + 1)))) b) p3 0
            else et tx n 61 (sk tx n (sk tx n p + 1) + 1) fun p2 =>
              (if hr tx n (sk tx n p) = 64 then
                (if hr tx n (sk tx n p2) = 92 then bd (PR tx n f 0 (sk tx n p2) (dep + 1) 0 acc) fun w p3 _ => et tx n 59 p3 fun p4 => bd (PR tx n f 0 p4 (dep + 1) 0 acc) fun i p5 _ => rok (eRec (nat (hr tx n (sk tx n (sk tx n p + 1)))) w i) p5 0 else rno)
              else bd (PR tx n f 0 p2 (dep + 1) 0 acc) fun w p3 _ => et tx n 59 p3 fun p4 => bd (PR tx n f 0 p4 (dep + 1) 0 acc) fun i p5 _ => rok (eLet (nat (hr tx n (sk tx n (sk tx n p + 1)))) w i) p5 0))
          else rno)
        else PR tx n f 1 (sk tx n p) (dep + 1) 0 acc)) := rfl
theorem PR_1 : PR tx n (f + 1) 1 p dep bn acc = (bd (PR tx n f 2 p dep 0 acc) fun e p1 _ => if hr tx n (sk tx n p1) = 44 then bd (PR tx n f 1 (sk tx n p1 + 1) dep 0 acc) fun r p2 _ => rok (eOp 44 e r) p2 0 else rok e (sk tx n p1) 0) := rfl
theorem PR_2 : PR tx n (f + 1) 2 p dep bn acc = (bd (PR tx n f 3 p dep 0 acc) fun e p1 _ => if (sgn tx n 0 p1).1 = 0 then rok e (sgn tx n 0 p1).2 0 else bd (PR tx n f 3 (sgn tx n 0 p1).2 dep 0 acc) fun r p2 _ => rok (eOp (nat (sgn tx n 0 p1).1) e r) p2 0) := rfl
theorem PR_3 : PR tx n (f + 1) 3 p dep bn acc = (bd (PR tx n f 4 p dep 0 acc) fun e p1 _ => PR tx n f 13 p1 dep 0 e) := rfl
theorem PR_13 : PR tx n (f + 1) 13 p dep bn acc = (if (sgn tx n 1 p).1 = 0 then rok acc (sgn tx n 1 p).2 0 else bd (PR tx n f 4 (sgn tx n 1 p).2 dep 0 acc) fun r p1 _ => PR tx n f 13 p1 dep 0 (eOp (nat (sgn tx n 1 p).1) acc r)) := rfl
theorem PR_4 : PR tx n (f + 1) 4 p dep bn acc = (bd (PR tx n f 5 p dep 0 acc) fun e p1 _ => PR tx n f 14 p1 dep 0 e) := rfl
theorem PR_14 : PR tx n (f + 1) 14 p dep bn acc = (if (sgn tx n 2 p).1 = 0 then rok acc (sgn tx n 2 p).2 0 else bd (PR tx n f 5 (sgn tx n 2 p).2 dep 0 acc) fun r p1 _ => PR tx n f 14 p1 dep 0 (eOp (nat (sgn tx n 2 p).1) acc r)) := rfl
theorem PR_5 : PR tx n (f + 1) 5 p dep bn acc = (bd (PR tx n f 6 p dep 0 acc) fun e p1 _ => PR tx n f 15 p1 dep 0 e) := rfl
theorem PR_15 : PR tx n (f + 1) 15 p dep bn acc = (if bg (hr tx n (sk tx n p)) = true then bd (PR tx n f 6 (sk tx n p) dep 0 acc) fun a p1 _ => PR tx n f 15 p1 dep 0 (eApp acc a) else rok acc (sk tx n p) 0) := rfl
theorem PR_6 : PR tx n (f + 1) 6 p dep bn acc = (if bg (hr tx n (sk tx n p)) = true then
        (if dg (hr tx n (sk tx n p)) = true then (match dgs tx n 4 (sk tx n p) with
          | none => rno
          | some (v, p1) => if hr tx n p1 = 46 then (match dgs tx n 3 (p1 + 1) with
            | none => rno
            | some (w, p2) => rok (ePlain 2 (1000 * nat v + nat w * 10 ^ (3 - (p2 - (p1 + 1))))) p2 0) else rok (ePlain 0 (nat v)) p1 0)
        else if hr tx n (sk tx n p) = 84 then rok (ePlain 1 1) (sk tx n p + 1) 0
        else if hr tx n (sk tx n p) = 70 then rok (ePlain 1 0) (sk tx n p + 1) 0
        else if hr tx n (sk tx n p) = 82 then rok (ePlain 4 82) (sk tx n p + 1) 0
        else if hr tx n (sk tx n p) = 73 then rok (ePlain 4 73) (sk tx n p + 1) 0
        else if hr tx n (sk tx n p) = 126 then bd (PR tx n f 6 (sk tx n p + 1) dep 0 acc) fun e p1 _ => rok (eNeg e) p1 0
        else if hr tx n (sk tx n p) = 91 then (if hr tx n (sk tx n p + 1) = 93 then rok (ePlain 3 0) (sk tx n p + 2) 0 else rno)
        else if hr tx n (sk tx n p) = 40 then bd (PR tx n f 0 (sk tx n p + 1) dep 0 acc) fun e p1 _ => et tx n 41 p1 fun p2 => rok e p2 0
        else rok (eName (nat (hr tx n (sk tx n p)))) (sk tx n p + 1) 0)
      else rno) := rfl
theorem PR_7 : PR tx n (f + 1) 7 p dep bn acc = (if 16 < dep + 1 then rno else bd (PR tx n f 8 p (dep + 1) bn acc) fun e p1 b1 => if hr tx n (sk tx n p1) = 44 then bd (PR tx n f 7 (sk tx n p1 + 1) (dep + 1) b1 acc) fun r p2 b2 => rok (pBoth e r) p2 b2 else rok e (sk tx n p1) b1) := rfl
theorem PR_8 : PR tx n (f + 1) 8 p dep bn acc = (if dg (hr tx n (sk tx n p)) = true then (match dgs tx n 4 (sk tx n p) with
          | none => rno
          | some (v, p1) => rok (pSame 2 (nat v)) p1 bn)
        else if hr tx n (sk tx n p) = 84 then rok (pSame 3 1) (sk tx n p + 1) bn
        else if hr tx n (sk tx n p) = 70 then rok (pSame 3 0) (sk tx n p + 1) bn
        else if hr tx n (sk tx n p) = 95 then rok (pAny 0) (sk tx n p + 1) bn
        else if hr tx n (sk tx n p) = 91 then (if hr tx n (sk tx n p + 1) = 93 then rok (pSame 4 0) (sk tx n p + 2) bn else rno)
        else if hr tx n (sk tx n p) = 40 then bd (PR tx n f 7 (sk tx n p + 1) dep bn acc) fun e p1 b1 => et tx n 41 p1 fun p2 => rok e p2 b1
        else if lt (hr tx n (sk tx n p)) = true then (if (bn >>> ((hr tx n (sk tx n p) - 97) &&& 31)) &&& 1 = 1 then rno else rok (pAny (nat (hr tx n (sk tx n p)))) (sk tx n p + 1) (bn ||| ((1 : Int32) <<< ((hr tx n (sk tx n p) - 97) &&& 31))))
        else rno) := rfl
theorem PR_9 : PR tx n (f + 1) 9 p dep bn acc = ((match acc with
      | .natCast m => if 5 ≤ m then rno else bd (PR tx n f 7 p dep 0 acc) fun q p1 _ => et tx n 58 p1 fun p2 => bd (PR tx n f 0 p2 dep 0 acc) fun e p3 _ => if hr tx n (sk tx n p3) = 124 then bd (PR tx n f 9 (sk tx n p3 + 1) dep 0 (.natCast (m + 1))) fun r p4 _ => rok (cCons q e r) p4 0 else rok (cCons q e cNil) (sk tx n p3) 0
      | _ => rno)) := rfl
end PQ
