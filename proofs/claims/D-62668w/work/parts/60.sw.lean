/-! THE SWITCHES -/
set_option maxRecDepth 100000
def swL : List (Nat × Nat) → Nat → Int32 → Nat
  | [], d, _ => d
  | (a, o) :: r, d, c => if c = i32 a then o else swL r d c
theorem swL_cons {a o d : Nat} {r : List (Nat × Nat)} {c : Int32} : swL ((a, o) :: r) d c = if c = i32 a then o else swL r d c := rfl
theorem swL_nil {d : Nat} {c : Int32} : swL [] d c = d := rfl
theorem swL_offs {d : Nat} {c : Int32} : ∀ (l : List (Nat × Nat)), (∀ z, z ∈ l → z.1 < 2147483648) → Op.lookupswitch.offset (l.map (fun z => ((z.1 : Int), (z.2 : Int)))) (d : Int) c.toInt = (swL l d c : Int) := by
  intro l
  induction l with
  | nil => intro _; rfl
  | cons z r ih =>
    intro h
    obtain ⟨a, o⟩ := z
    have e := ih (fun z hz => h z (List.mem_cons_of_mem _ hz))
    have ha : a < 2147483648 := h (a, o) List.mem_cons_self
    rw [List.map_cons, Op.lookupswitch.offset_cons, e, swL_cons]
    by_cases hc : c = i32 a
    · subst hc
      rw [if_pos (i32_toInt ha).symm, if_pos rfl]
    · rw [if_neg hc, if_neg]
      intro z
      exact hc (Int32.toInt_inj.mp (by rw [i32_toInt ha]; exact z.symm))
section SW
variable {m d : Nat} {Q : am_O → am_H → Prop} {L : am_V} {T : List Value} {h : am_H} {c : Int32}
theorem x36_44 : XW 36 d Q 44 L (.int c :: T) h ↔ XW 36 d Q (swL [(40, 209), (70, 112), (73, 137), (82, 137), (84, 112), (91, 167), (126, 152)] 233 c) L T h := by
  have e := swL_offs (d := 233) (c := c) [(40, 209), (70, 112), (73, 137), (82, 137), (84, 112), (91, 167), (126, 152)] (by decide)
  have r := r_sw (m := 36) (d := d) (Q := Q) (L := L) (S := .int c :: T) (h := h) (t := (swL [(40, 209), (70, 112), (73, 137), (82, 137), (84, 112), (91, 167), (126, 152)] 233 c : Int)) (S' := T) (lk36 (rfl : am_c36.lookup 44 = some (_, .lookupswitch _ _))) rfl rfl (by unfold am_sw; dsimp only; rw [if_pos (by decide), ← e]; rfl) (Int.natCast_nonneg _) rfl
  rw [r, Int.toNat_natCast]
theorem x48_39 : XW 48 d Q 39 L (.int c :: T) h ↔ XW 48 d Q (swL [(40, 158), (70, 88), (84, 88), (91, 119), (95, 110)] 182 c) L T h := by
  have e := swL_offs (d := 182) (c := c) [(40, 158), (70, 88), (84, 88), (91, 119), (95, 110)] (by decide)
  have r := r_sw (m := 48) (d := d) (Q := Q) (L := L) (S := .int c :: T) (h := h) (t := (swL [(40, 158), (70, 88), (84, 88), (91, 119), (95, 110)] 182 c : Int)) (S' := T) (lk48 (rfl : am_c48.lookup 39 = some (_, .lookupswitch _ _))) rfl rfl (by unfold am_sw; dsimp only; rw [if_pos (by decide), ← e]; rfl) (Int.natCast_nonneg _) rfl
  rw [r, Int.toNat_natCast]
theorem x65_12 : XW 65 d Q 12 L (.int c :: T) h ↔ XW 65 d Q (swL [(0, 71), (1, 44), (2, 53), (3, 62)] 79 c) L T h := by
  have e : (if c.toInt < 0 ∨ 3 < c.toInt then some ((79 : Int), T) else ((#[71, 44, 53, 62] : Array Int)[(c.toInt - 0).toNat]?).map (fun o => (o, T))) = some ((swL [(0, 71), (1, 44), (2, 53), (3, 62)] 79 c : Int), T) := by
    by_cases hc : c.toInt < 0 ∨ 3 < c.toInt
    · rw [if_pos hc]
      simp only [swL]
      rw [if_neg (fun z => by rw [z] at hc; exact absurd hc (by decide)), if_neg (fun z => by rw [z] at hc; exact absurd hc (by decide)), if_neg (fun z => by rw [z] at hc; exact absurd hc (by decide)), if_neg (fun z => by rw [z] at hc; exact absurd hc (by decide))]
      rfl
    · rw [if_neg hc]
      have hh : c = i32 0 ∨ c = i32 1 ∨ c = i32 2 ∨ c = i32 3 := by
        have hx : ∃ k : Nat, k ≤ 3 ∧ c = i32 k := ⟨c.toInt.toNat, by omega, by rw [← Int32.toInt_inj, i32_toInt (by omega)]; omega⟩
        obtain ⟨k, hk, rfl⟩ := hx
        match k, hk with
        | 0, _ => exact .inl rfl
        | 1, _ => exact .inr (.inl rfl)
        | 2, _ => exact .inr (.inr (.inl rfl))
        | 3, _ => exact .inr (.inr (.inr (rfl)))
        | k + 4, hk => exact absurd hk (by omega)
      rcases hh with rfl | rfl | rfl | rfl <;> rfl
  have r := r_sw (m := 65) (d := d) (Q := Q) (L := L) (S := .int c :: T) (h := h) (t := (swL [(0, 71), (1, 44), (2, 53), (3, 62)] 79 c : Int)) (S' := T) (lk65 (rfl : am_c65.lookup 12 = some (_, .tableswitch _ _ _ _))) rfl rfl e (Int.natCast_nonneg _) rfl
  rw [r, Int.toNat_natCast]
theorem x12_34 : XW 12 d Q 34 L (.int c :: T) h ↔ XW 12 d Q (swL [(0, 116), (1, 116), (2, 131), (3, 151), (4, 162), (5, 177), (6, 213), (7, 240), (8, 279), (9, 294), (10, 302), (11, 324), (12, 335), (13, 364), (14, 390), (15, 398), (16, 401)] 409 c) L T h := by
  have e : (if c.toInt < 0 ∨ 16 < c.toInt then some ((409 : Int), T) else ((#[116, 116, 131, 151, 162, 177, 213, 240, 279, 294, 302, 324, 335, 364, 390, 398, 401] : Array Int)[(c.toInt - 0).toNat]?).map (fun o => (o, T))) = some ((swL [(0, 116), (1, 116), (2, 131), (3, 151), (4, 162), (5, 177), (6, 213), (7, 240), (8, 279), (9, 294), (10, 302), (11, 324), (12, 335), (13, 364), (14, 390), (15, 398), (16, 401)] 409 c : Int), T) := by
    by_cases hc : c.toInt < 0 ∨ 16 < c.toInt
    · rw [if_pos hc]
      simp only [swL]
      rw [if_neg (fun z => by rw [z] at hc; exact absurd hc (by decide)), if_neg (fun z => by rw [z] at hc; exact absurd hc (by decide)), if_neg (fun z => by rw [z] at hc; exact absurd hc (by decide)), if_neg (fun z => by rw [z] at hc; exact absurd hc (by decide)), if_neg (fun z => by rw [z] at hc; exact absurd hc (by decide)), if_neg (fun z => by rw [z] at hc; exact absurd hc (by decide)), if_neg (fun z => by rw [z] at hc; exact absurd hc (by decide)), if_neg (fun z => by rw [z] at hc; exact absurd hc (by decide)), if_neg (fun z => by rw [z] at hc; exact absurd hc (by decide)), if_neg (fun z => by rw [z] at hc; exact absurd hc (by decide)), if_neg (fun z => by rw [z] at hc; exact absurd hc (by decide)), if_neg (fun z => by rw [z] at hc; exact absurd hc (by decide)), if_neg (fun z => by rw [z] at hc; exact absurd hc (by decide)), if_neg (fun z => by rw [z] at hc; exact absurd hc (by decide)), if_neg (fun z => by rw [z] at hc; exact absurd hc (by decide)), if_neg (fun z => by rw [z] at hc; exact absurd hc (by decide)), if_neg (fun z => by rw [z] at hc; exact absurd hc (by decide))]
      rfl
    · rw [if_neg hc]
      have hh : c = i32 0 ∨ c = i32 1 ∨ c = i32 2 ∨ c = i32 3 ∨ c = i32 4 ∨ c = i32 5 ∨ c = i32 6 ∨ c = i32 7 ∨ c = i32 8 ∨ c = i32 9 ∨ c = i32 10 ∨ c = i32 11 ∨ c = i32 12 ∨ c = i32 13 ∨ c = i32 14 ∨ c = i32 15 ∨ c = i32 16 := by
        have hx : ∃ k : Nat, k ≤ 16 ∧ c = i32 k := ⟨c.toInt.toNat, by omega, by rw [← Int32.toInt_inj, i32_toInt (by omega)]; omega⟩
        obtain ⟨k, hk, rfl⟩ := hx
        match k, hk with
        | 0, _ => exact .inl rfl
        | 1, _ => exact .inr (.inl rfl)
        | 2, _ => exact .inr (.inr (.inl rfl))
        | 3, _ => exact .inr (.inr (.inr (.inl rfl)))
        | 4, _ => exact .inr (.inr (.inr (.inr (.inl rfl))))
        | 5, _ => exact .inr (.inr (.inr (.inr (.inr (.inl rfl)))))
        | 6, _ => exact .inr (.inr (.inr (.inr (.inr (.inr (.inl rfl))))))
        | 7, _ => exact .inr (.inr (.inr (.inr (.inr (.inr (.inr (.inl rfl)))))))
        | 8, _ => exact .inr (.inr (.inr (.inr (.inr (.inr (.inr (.inr (.inl rfl))))))))
        | 9, _ => exact .inr (.inr (.inr (.inr (.inr (.inr (.inr (.inr (.inr (.inl rfl)))))))))
        | 10, _ => exact .inr (.inr (.inr (.inr (.inr (.inr (.inr (.inr (.inr (.inr (.inl rfl))))))))))
        | 11, _ => exact .inr (.inr (.inr (.inr (.inr (.inr (.inr (.inr (.inr (.inr (.inr (.inl rfl)))))))))))
        | 12, _ => exact .inr (.inr (.inr (.inr (.inr (.inr (.inr (.inr (.inr (.inr (.inr (.inr (.inl rfl))))))))))))
        | 13, _ => exact .inr (.inr (.inr (.inr (.inr (.inr (.inr (.inr (.inr (.inr (.inr (.inr (.inr (.inl rfl)))))))))))))
        | 14, _ => exact .inr (.inr (.inr (.inr (.inr (.inr (.inr (.inr (.inr (.inr (.inr (.inr (.inr (.inr (.inl rfl))))))))))))))
        | 15, _ => exact .inr (.inr (.inr (.inr (.inr (.inr (.inr (.inr (.inr (.inr (.inr (.inr (.inr (.inr (.inr (.inl rfl)))))))))))))))
        | 16, _ => exact .inr (.inr (.inr (.inr (.inr (.inr (.inr (.inr (.inr (.inr (.inr (.inr (.inr (.inr (.inr (.inr (rfl))))))))))))))))
        | k + 17, hk => exact absurd hk (by omega)
      rcases hh with rfl | rfl | rfl | rfl | rfl | rfl | rfl | rfl | rfl | rfl | rfl | rfl | rfl | rfl | rfl | rfl | rfl <;> rfl
  have r := r_sw (m := 12) (d := d) (Q := Q) (L := L) (S := .int c :: T) (h := h) (t := (swL [(0, 116), (1, 116), (2, 131), (3, 151), (4, 162), (5, 177), (6, 213), (7, 240), (8, 279), (9, 294), (10, 302), (11, 324), (12, 335), (13, 364), (14, 390), (15, 398), (16, 401)] 409 c : Int)) (S' := T) (lk12 (rfl : am_c12.lookup 34 = some (_, .tableswitch _ _ _ _))) rfl rfl e (Int.natCast_nonneg _) rfl
  rw [r, Int.toNat_natCast]
theorem x20_20 : XW 20 d Q 20 L (.int c :: T) h ↔ XW 20 d Q (swL [(42, 88), (43, 72), (45, 80), (47, 96), (60, 104)] 119 c) L T h := by
  have e := swL_offs (d := 119) (c := c) [(42, 88), (43, 72), (45, 80), (47, 96), (60, 104)] (by decide)
  have r := r_sw (m := 20) (d := d) (Q := Q) (L := L) (S := .int c :: T) (h := h) (t := (swL [(42, 88), (43, 72), (45, 80), (47, 96), (60, 104)] 119 c : Int)) (S' := T) (lk20 (rfl : am_c20.lookup 20 = some (_, .lookupswitch _ _))) rfl rfl (by unfold am_sw; dsimp only; rw [if_pos (by decide), ← e]; rfl) (Int.natCast_nonneg _) rfl
  rw [r, Int.toNat_natCast]
theorem x23_1 : XW 23 d Q 1 L (.int c :: T) h ↔ XW 23 d Q (swL [(0, 32), (1, 37), (2, 42), (3, 47)] 52 c) L T h := by
  have e : (if c.toInt < 0 ∨ 3 < c.toInt then some ((52 : Int), T) else ((#[32, 37, 42, 47] : Array Int)[(c.toInt - 0).toNat]?).map (fun o => (o, T))) = some ((swL [(0, 32), (1, 37), (2, 42), (3, 47)] 52 c : Int), T) := by
    by_cases hc : c.toInt < 0 ∨ 3 < c.toInt
    · rw [if_pos hc]
      simp only [swL]
      rw [if_neg (fun z => by rw [z] at hc; exact absurd hc (by decide)), if_neg (fun z => by rw [z] at hc; exact absurd hc (by decide)), if_neg (fun z => by rw [z] at hc; exact absurd hc (by decide)), if_neg (fun z => by rw [z] at hc; exact absurd hc (by decide))]
      rfl
    · rw [if_neg hc]
      have hh : c = i32 0 ∨ c = i32 1 ∨ c = i32 2 ∨ c = i32 3 := by
        have hx : ∃ k : Nat, k ≤ 3 ∧ c = i32 k := ⟨c.toInt.toNat, by omega, by rw [← Int32.toInt_inj, i32_toInt (by omega)]; omega⟩
        obtain ⟨k, hk, rfl⟩ := hx
        match k, hk with
        | 0, _ => exact .inl rfl
        | 1, _ => exact .inr (.inl rfl)
        | 2, _ => exact .inr (.inr (.inl rfl))
        | 3, _ => exact .inr (.inr (.inr (rfl)))
        | k + 4, hk => exact absurd hk (by omega)
      rcases hh with rfl | rfl | rfl | rfl <;> rfl
  have r := r_sw (m := 23) (d := d) (Q := Q) (L := L) (S := .int c :: T) (h := h) (t := (swL [(0, 32), (1, 37), (2, 42), (3, 47)] 52 c : Int)) (S' := T) (lk23 (rfl : am_c23.lookup 1 = some (_, .tableswitch _ _ _ _))) rfl rfl e (Int.natCast_nonneg _) rfl
  rw [r, Int.toNat_natCast]
theorem x221_44 : XW 221 d Q 44 L (.int c :: T) h ↔ XW 221 d Q (swL [(0, 100), (1, 127), (2, 138), (3, 182), (4, 207), (5, 232), (6, 257), (7, 313), (8, 378), (9, 414)] 438 c) L T h := by
  have e : (if c.toInt < 0 ∨ 9 < c.toInt then some ((438 : Int), T) else ((#[100, 127, 138, 182, 207, 232, 257, 313, 378, 414] : Array Int)[(c.toInt - 0).toNat]?).map (fun o => (o, T))) = some ((swL [(0, 100), (1, 127), (2, 138), (3, 182), (4, 207), (5, 232), (6, 257), (7, 313), (8, 378), (9, 414)] 438 c : Int), T) := by
    by_cases hc : c.toInt < 0 ∨ 9 < c.toInt
    · rw [if_pos hc]
      simp only [swL]
      rw [if_neg (fun z => by rw [z] at hc; exact absurd hc (by decide)), if_neg (fun z => by rw [z] at hc; exact absurd hc (by decide)), if_neg (fun z => by rw [z] at hc; exact absurd hc (by decide)), if_neg (fun z => by rw [z] at hc; exact absurd hc (by decide)), if_neg (fun z => by rw [z] at hc; exact absurd hc (by decide)), if_neg (fun z => by rw [z] at hc; exact absurd hc (by decide)), if_neg (fun z => by rw [z] at hc; exact absurd hc (by decide)), if_neg (fun z => by rw [z] at hc; exact absurd hc (by decide)), if_neg (fun z => by rw [z] at hc; exact absurd hc (by decide)), if_neg (fun z => by rw [z] at hc; exact absurd hc (by decide))]
      rfl
    · rw [if_neg hc]
      have hh : c = i32 0 ∨ c = i32 1 ∨ c = i32 2 ∨ c = i32 3 ∨ c = i32 4 ∨ c = i32 5 ∨ c = i32 6 ∨ c = i32 7 ∨ c = i32 8 ∨ c = i32 9 := by
        have hx : ∃ k : Nat, k ≤ 9 ∧ c = i32 k := ⟨c.toInt.toNat, by omega, by rw [← Int32.toInt_inj, i32_toInt (by omega)]; omega⟩
        obtain ⟨k, hk, rfl⟩ := hx
        match k, hk with
        | 0, _ => exact .inl rfl
        | 1, _ => exact .inr (.inl rfl)
        | 2, _ => exact .inr (.inr (.inl rfl))
        | 3, _ => exact .inr (.inr (.inr (.inl rfl)))
        | 4, _ => exact .inr (.inr (.inr (.inr (.inl rfl))))
        | 5, _ => exact .inr (.inr (.inr (.inr (.inr (.inl rfl)))))
        | 6, _ => exact .inr (.inr (.inr (.inr (.inr (.inr (.inl rfl))))))
        | 7, _ => exact .inr (.inr (.inr (.inr (.inr (.inr (.inr (.inl rfl)))))))
        | 8, _ => exact .inr (.inr (.inr (.inr (.inr (.inr (.inr (.inr (.inl rfl))))))))
        | 9, _ => exact .inr (.inr (.inr (.inr (.inr (.inr (.inr (.inr (.inr (rfl)))))))))
        | k + 10, hk => exact absurd hk (by omega)
      rcases hh with rfl | rfl | rfl | rfl | rfl | rfl | rfl | rfl | rfl | rfl <;> rfl
  have r := r_sw (m := 221) (d := d) (Q := Q) (L := L) (S := .int c :: T) (h := h) (t := (swL [(0, 100), (1, 127), (2, 138), (3, 182), (4, 207), (5, 232), (6, 257), (7, 313), (8, 378), (9, 414)] 438 c : Int)) (S' := T) (lk221 (rfl : am_c221.lookup 44 = some (_, .tableswitch _ _ _ _))) rfl rfl e (Int.natCast_nonneg _) rfl
  rw [r, Int.toNat_natCast]
end SW
