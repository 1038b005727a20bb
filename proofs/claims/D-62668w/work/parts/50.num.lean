/-! SMALL NUMBERS as Int32, and equal states -/
set_option maxRecDepth 100000
def i32 (n : Nat) : Int32 := Int32.ofNat n
section NU
variable {a b : Nat}
theorem i32_toInt (h : a < 2147483648) : (i32 a).toInt = (a : Int) := Int32.toInt_ofNat_of_lt h
theorem i32_lt (ha : a < 2147483648) (hb : b < 2147483648) : (i32 a < i32 b) ↔ a < b := by
  rw [Int32.lt_iff_toInt_lt, i32_toInt ha, i32_toInt hb]
  omega
theorem i32_eq (ha : a < 2147483648) (hb : b < 2147483648) : (i32 a = i32 b) ↔ a = b := by
  rw [← Int32.toInt_inj, i32_toInt ha, i32_toInt hb]
  omega
theorem i32_add : i32 a + i32 b = i32 (a + b) := (Int32.ofNat_add a b).symm
theorem i32_add1 : i32 a + 1 = i32 (a + 1) := (Int32.ofNat_add a 1).symm
theorem i32_add2 : i32 a + 2 = i32 (a + 2) := (Int32.ofNat_add a 2).symm
theorem i32_sub (h : b ≤ a) (ha : a < 2147483648) : i32 a - i32 b = i32 (a - b) := by
  have h1 : i32 a = i32 (a - b) + i32 b := by rw [i32_add]; congr 1; omega
  rw [h1, Int32.add_sub_cancel]
theorem i32_sub1 (h : 1 ≤ a) (ha : a < 2147483648) : i32 a - 1 = i32 (a - 1) := i32_sub h ha
theorem i32_sub2 (h : 2 ≤ a) (ha : a < 2147483648) : i32 a - 2 = i32 (a - 2) := i32_sub h ha
theorem i32_m1 (h : 1 ≤ a) (ha : a < 2147483648) : i32 a + -1 = i32 (a - 1) := by
  rw [← Int32.sub_eq_add_neg]; exact i32_sub h ha
theorem i32_nat (h : a < 2147483648) : (i32 a).toNatClampNeg = a := i32_clamp h
theorem i32_neg (h : a < 2147483648) : ¬ i32 a < 0 := by
  have : (0 : Int32) = i32 0 := rfl
  rw [this, i32_lt h (by decide)]
  omega
theorem i32_in {n : Nat} (h : a < 2147483648) : vp_in (i32 a) n ↔ a < n := by
  unfold vp_in
  rw [i32_nat h]
  constructor
  · intro z
    exact Nat.not_le.mp fun y => z (Or.inr y)
  · rintro z (y | y)
    · exact i32_neg h y
    · omega
end NU
section SE
variable {D : sS} {q q' j i : Nat}
theorem sI_self : sI D q (gI D q) = D := by
  refine Prod.ext (funext fun k => ?_) rfl
  show (if k = q then gI D q else D.1 k) = D.1 k
  split
  · rename_i h; rw [h]; rfl
  · rfl
theorem sI_sI {v w : Int32} : sI (sI D q v) q w = sI D q w := by
  refine Prod.ext (funext fun k => ?_) rfl
  show (if k = q then w else if k = q then v else D.1 k) = if k = q then w else D.1 k
  split <;> rfl
theorem sI_swap {v w : Int32} (h : q ≠ q') : sI (sI D q v) q' w = sI (sI D q' w) q v := by
  refine Prod.ext (funext fun k => ?_) rfl
  show (if k = q' then w else if k = q then v else D.1 k) = if k = q then v else if k = q' then w else D.1 k
  by_cases h1 : k = q' <;> by_cases h2 : k = q <;> simp_all
theorem sI_same {v : Int32} (h : gI D q = v) : sI D q v = D := by rw [← h]; exact sI_self
end SE
