/-! THE FIRST STATE OF THE DESKS -/
set_option maxRecDepth 100000
def D0 (N : Nat) (xs : Nat → Int32) : sS := (fun q => if q = 9000 then Int32.ofNat N else 0, fun _ => none, fun q j => if q = 9000 then xs j else 0, fun _ _ => 0, fun _ _ => 0, fun _ _ => none, fun a => if a = 26 then some (.inr (2, [.ref 1, .null, .null, .null, .int 0, .int 0])) else if a = 27 then some (.inr (2, [.ref 2, .null, .null, .null, .int 0, .int 0])) else if a = 28 then some (.inr (2, [.ref 3, .null, .null, .null, .int 0, .int 0])) else if a = 36 then some (.inr (3, [])) else none, 0, 22768)
theorem i32_clamp {n : Nat} (h : n < 2147483648) : (Int32.ofNat n).toNatClampNeg = n := by
  have h1 : (Int32.ofNat n).toInt = (n : Int) := Int32.toInt_ofNat_of_lt h
  unfold Int32.toNatClampNeg
  rw [h1]
  rfl
theorem hh_D0 {N : Nat} {xs : Nat → Int32} (hN : N ≤ 128) : hh N xs cs0 22768 = toH (D0 N xs) := by
  refine Prod.ext (funext fun a => ?_) rfl
  by_cases ha : a < 82
  · match a, ha with
    | 0, _ => rfl
    | 1, _ => rfl
    | 2, _ => rfl
    | 3, _ => rfl
    | 4, _ => rfl
    | 5, _ => rfl
    | 6, _ => rfl
    | 7, _ => rfl
    | 8, _ => rfl
    | 9, _ => rfl
    | 10, _ => rfl
    | 11, _ => rfl
    | 12, _ => rfl
    | 13, _ => rfl
    | 14, _ => rfl
    | 15, _ => rfl
    | 16, _ => rfl
    | 17, _ => rfl
    | 18, _ => rfl
    | 19, _ => rfl
    | 20, _ => rfl
    | 21, _ => rfl
    | 22, _ => rfl
    | 23, _ => rfl
    | 24, _ =>
      show some (Sum.inl (20, N, fun j => Value.int (xs j))) = some (Sum.inl (20, (Int32.ofNat N).toNatClampNeg, fun j => Value.int (xs j)))
      rw [i32_clamp (by omega)]
    | 25, _ => rfl
    | 26, _ => rfl
    | 27, _ => rfl
    | 28, _ => rfl
    | 29, _ => rfl
    | 30, _ => rfl
    | 31, _ => rfl
    | 32, _ => rfl
    | 33, _ => rfl
    | 34, _ => rfl
    | 35, _ => rfl
    | 36, _ => rfl
    | 37, _ => rfl
    | 38, _ => rfl
    | 39, _ => rfl
    | 40, _ => rfl
    | 41, _ => rfl
    | 42, _ => rfl
    | 43, _ => rfl
    | 44, _ => rfl
    | 45, _ => rfl
    | 46, _ => rfl
    | 47, _ => rfl
    | 48, _ => rfl
    | 49, _ => rfl
    | 50, _ => rfl
    | 51, _ => rfl
    | 52, _ => rfl
    | 53, _ => rfl
    | 54, _ => rfl
    | 55, _ => rfl
    | 56, _ => rfl
    | 57, _ => rfl
    | 58, _ => rfl
    | 59, _ => rfl
    | 60, _ => rfl
    | 61, _ => rfl
    | 62, _ => rfl
    | 63, _ => rfl
    | 64, _ => rfl
    | 65, _ => rfl
    | 66, _ => rfl
    | 67, _ => rfl
    | 68, _ => rfl
    | 69, _ => rfl
    | 70, _ => rfl
    | 71, _ => rfl
    | 72, _ => rfl
    | 73, _ => rfl
    | 74, _ => rfl
    | 75, _ => rfl
    | 76, _ => rfl
    | 77, _ => rfl
    | 78, _ => rfl
    | 79, _ => rfl
    | 80, _ => rfl
    | 81, _ => rfl
    | n + 82, h => exact absurd h (by omega)
  · have h1 : (hh N xs cs0 22768).1 a = cs0[a - 25]? := by
      unfold hh
      dsimp only
      rw [if_neg (by omega), if_neg (by omega), if_neg (by omega)]
    have h2 : cs0[a - 25]? = none := List.getElem?_eq_none (by show 57 ≤ a - 25; omega)
    have h3 : isRec a = false := by
      unfold isRec
      rw [decide_eq_false ha]
      rfl
    rw [h1, h2]
    show none = if isRec a = true then tC (D0 N xs) a else gG (D0 N xs) a
    rw [h3, if_neg (by decide)]
    show none = if a = 26 then _ else if a = 27 then _ else if a = 28 then _ else if a = 36 then _ else none
    rw [if_neg (by omega), if_neg (by omega), if_neg (by omega), if_neg (by omega)]
/-- the law, out of its loop -/
theorem law_of (N : Nat) (xs : Nat → Int32) (hN : N ≤ 128) (z : XW 221 2041 (fun o _ => o = .inl (some (.int 1))) 28 [some (.retAddr 0), some (.ref 25), some (.ref 40), some (.ref 80), some (.ref 81), some (.int 0), none, none, none] [] (toH (D0 N xs))) : AW 221 (AC 2041) (fun o _ => o = .inl (some (.int 1))) 0 (am_ent 9 [.retAddr 0]) [] (fun a => if a < 6 then some (.inr (30, [.int (Int32.ofNat a)])) else if a < 24 then some (.inr (31, [.int (Int32.ofNat (a - 6))])) else if a = 24 then some (.inl (20, N, fun j => .int (xs j))) else none, 25, 0) := by
  have h0 : ((fun a => if a < 6 then some (.inr (30, [.int (Int32.ofNat a)])) else if a < 24 then some (.inr (31, [.int (Int32.ofNat (a - 6))])) else if a = 24 then some (.inl (20, N, fun j => .int (xs j))) else none, 25, 0) : am_H) = hh N xs [] 0 := by
    refine Prod.ext (funext fun a => ?_) rfl
    unfold hh
    simp
  rw [h0]
  rw [← hh_D0 hN] at z
  exact c_law (d := 2041) (by decide) z
