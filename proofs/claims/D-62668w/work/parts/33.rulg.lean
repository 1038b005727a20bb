/-! ONE RULE A KIND OF INSTRUCTION, 3: forms that the printed rows use; the desks' arrays -/
set_option maxRecDepth 100000
section RW
variable {m d : Nat} {Q : am_O → am_H → Prop} {pc k : Nat} {i : Instr} {L : am_V} {S T : List Value} {h : am_H} {D D' : sS} {q n a b κ : Nat}
theorem r_p {S' : List Value} (hc : (am_cd m).lookup pc = some (k, i)) (hp : am_pure i S = some (True, S')) (hn : am_len i = n) (h2 : aw_in m (AC d) Q pc k i L S h (XW m d Q) = False) : XW m d Q pc L S h ↔ XW m d Q (pc + n) L S' h := (r_pure hc hp hn h2).trans (and_iff_right trivial)
theorem r_inT {P : Prop} {v : Value} (hc : (am_cd m).lookup pc = some (k, i)) (h1 : aw_in m (AC d) Q pc k i L S h (XW m d Q) = (am_isR2 v = true ∧ P)) (h2 : aw_oth pc i L S h (XW m d Q) = False) (hv : am_isR2 v = true) : XW m d Q pc L S h ↔ P := (r_in hc h1 h2).trans (and_iff_right hv)
theorem r_b2 {S' : List Value} {A A1 A2 : Prop} {t : Int} {t' : Nat} (hc : (am_cd m).lookup pc = some (k, i)) (hp : am_pure i S = none) (hb : am_br i S = some (A, t, S')) (ht : t = (t' : Int)) (h2 : aw_in m (AC d) Q pc k i L S h (XW m d Q) = False) (e1 : A ↔ A1) (e2 : ¬ A ↔ A2) : XW m d Q pc L S h ↔ (A1 → XW m d Q t' L S' h) ∧ (A2 → XW m d Q (pc + 3) L S' h) := by
  rw [r_br hc hp hb ht h2, ← e2, ← e1]
theorem b_eq {x y : Int32} : am_cmp .eq x y ↔ x = y := Iff.rfl
theorem b_eq' {x y : Int32} : ¬ am_cmp .eq x y ↔ ¬ x = y := Iff.rfl
theorem b_ne {x y : Int32} : am_cmp .ne x y ↔ ¬ x = y := Iff.rfl
theorem b_ne' {x y : Int32} : ¬ am_cmp .ne x y ↔ x = y := Decidable.not_not
theorem b_lt {x y : Int32} : am_cmp .lt x y ↔ x < y := Iff.rfl
theorem b_lt' {x y : Int32} : ¬ am_cmp .lt x y ↔ ¬ x < y := Iff.rfl
theorem b_ge {x y : Int32} : am_cmp .ge x y ↔ ¬ x < y := Int32.not_lt.symm
theorem b_ge' {x y : Int32} : ¬ am_cmp .ge x y ↔ x < y := (not_congr Int32.not_lt.symm).trans Decidable.not_not
theorem b_gt {x y : Int32} : am_cmp .gt x y ↔ y < x := Iff.rfl
theorem b_gt' {x y : Int32} : ¬ am_cmp .gt x y ↔ ¬ y < x := Iff.rfl
theorem b_le {x y : Int32} : am_cmp .le x y ↔ ¬ y < x := Int32.not_lt.symm
theorem b_le' {x y : Int32} : ¬ am_cmp .le x y ↔ y < x := (not_congr Int32.not_lt.symm).trans Decidable.not_not
theorem r_aeq {t : Int} {t' : Nat} {x y : Value} (hc : (am_cd m).lookup pc = some (k, .if_acmp .eq t)) (ht : t = (t' : Int)) : XW m d Q pc L (y :: x :: T) h ↔ (am_isR x = true ∧ am_isR y = true) ∧ (x = y → XW m d Q t' L T h) ∧ (¬ x = y → XW m d Q (pc + 3) L T h) := by
  subst ht
  refine XW.ofO hc ?_ (fun z => z)
  unfold aw_oth am_pure am_br am_sw
  dsimp only
  by_cases hr : am_isR x = true ∧ am_isR y = true
  · rw [if_pos hr]
    exact ⟨fun z => ⟨hr, z.2⟩, fun z => ⟨by omega, z.2⟩⟩
  · rw [if_neg hr]
    exact ⟨fun z => z.elim, fun z => hr z.1⟩
theorem r_ane {t : Int} {t' : Nat} {x y : Value} (hc : (am_cd m).lookup pc = some (k, .if_acmp .ne t)) (ht : t = (t' : Int)) : XW m d Q pc L (y :: x :: T) h ↔ (am_isR x = true ∧ am_isR y = true) ∧ (¬ x = y → XW m d Q t' L T h) ∧ (x = y → XW m d Q (pc + 3) L T h) := by
  subst ht
  refine XW.ofO hc ?_ (fun z => z)
  unfold aw_oth am_pure am_br am_sw
  dsimp only
  by_cases hr : am_isR x = true ∧ am_isR y = true
  · rw [if_pos hr]
    exact ⟨fun z => ⟨hr, z.2.1, fun y => z.2.2 (fun w => w y)⟩, fun z => ⟨by omega, z.2.1, fun y => z.2.2 (Classical.byContradiction y)⟩⟩
  · rw [if_neg hr]
    exact ⟨fun z => z.elim, fun z => hr z.1⟩
theorem r_dupf {r : Option Nat} (hc : (am_cd m).lookup pc = some (k, .dup)) : XW m d Q pc L (va_rf r :: T) h ↔ XW m d Q (pc + 1) L (va_rf r :: va_rf r :: T) h := by
  cases r <;> exact r_p hc rfl rfl rfl
theorem isR_ref : am_isR (.ref a) = true := rfl
theorem isR_null : am_isR .null = true := rfl
theorem isR_rf {r : Option Nat} : am_isR (va_rf r) = true := by cases r <;> rfl
theorem isR2_ref : am_isR2 (.ref a) = true := rfl
theorem isR2_null : am_isR2 .null = true := rfl
theorem isR2_rf {r : Option Nat} : am_isR2 (va_rf r) = true := by cases r <;> rfl
theorem isR2_of {v : Value} (h : am_isR v = true) : am_isR2 v = true := by cases v <;> first | rfl | cases h
theorem am_k_int {x : Int32} : am_k (some (.int x)) = some (.int x) := rfl
theorem am_k_ref : am_k (some (.ref a)) = some (.ref a) := rfl
theorem am_k_null : am_k (some .null) = some .null := rfl
theorem am_k_rf {r : Option Nat} : am_k (some (va_rf r)) = some (va_rf r) := by cases r <;> rfl
theorem am_k_none : am_k none = none := rfl
theorem am_k_long {x : Int64} : am_k (some (.long x)) = none := rfl
theorem am_k_double {x : UInt64} : am_k (some (.double x)) = none := rfl
theorem rf_some : va_rf (some a) = .ref a := rfl
theorem rf_none : va_rf none = .null := rfl
theorem rf_inj {r r' : Option Nat} : va_rf r = va_rf r' ↔ r = r' := by cases r <;> cases r' <;> simp [va_rf]
theorem rf_ref {r : Option Nat} : va_rf r = .ref a ↔ r = some a := by cases r <;> simp [va_rf]
theorem ref_rf {r : Option Nat} : .ref a = va_rf r ↔ some a = r := by cases r <;> simp [va_rf]
theorem rf_null {r : Option Nat} : va_rf r = .null ↔ r = none := by cases r <;> simp [va_rf]
theorem fit_rf {C : String} {r : Option Nat} : am_fit (.object C) (va_rf r) := by cases r <;> exact ⟨rfl, rfl⟩
theorem fit_int {x : Int32} : am_fit .int (.int x) := ⟨rfl, rfl⟩
theorem fit_b {x : Int32} : am_fit .boolean (.int x) ↔ x = 0 ∨ x = 1 := by
  constructor
  · intro h
    have h1 : Value.int (x &&& 1) = .int x := h.1
    have h1 : x &&& 1 = x := by injection h1
    have h2 : x.toBitVec &&& 1#32 = x.toBitVec := congrArg Int32.toBitVec h1
    have h3 : x.toBitVec.toNat % 2 = x.toBitVec.toNat := by
      have := congrArg BitVec.toNat h2
      rw [BitVec.toNat_and] at this
      simpa [Nat.and_one_is_mod] using this
    have h4 : x.toBitVec.toNat = 0 ∨ x.toBitVec.toNat = 1 := by omega
    rcases h4 with h4 | h4
    · left; apply Int32.toBitVec_inj.mp; apply BitVec.eq_of_toNat_eq; rw [h4]; rfl
    · right; apply Int32.toBitVec_inj.mp; apply BitVec.eq_of_toNat_eq; rw [h4]; rfl
  · rintro (rfl | rfl) <;> exact ⟨rfl, rfl⟩
theorem he_A {v : Int32} {j : Nat} (hr : isRec a = true) (hl : ∀ D, tC D a = some (.inl (κ, n, fun j => .int (gA D q j)))) (h9 : 9000 ≠ q) (ht : ∀ z ∈ aT, z.1 = a ∨ z.2.1 ≠ q) : am_up (toH D) a (.inl (κ, n, updV (fun j => .int (gA D q j)) j (.int v))) = toH (sA D q j v) :=
  toH_upA (q := q) hr (by rw [hl, fA_sA]) rfl rfl (fun q' hq => aC_sA q' hq) rfl (fun i => by rw [gA_sA, if_neg h9]) ht rfl rfl rfl
theorem he_L {v : Int64} {j : Nat} (hr : isRec a = true) (hl : ∀ D, tC D a = some (.inl (κ, n, fun j => .long (gL D q j)))) (h0 : q ≠ 581) (ht : ∀ z ∈ aT, z.1 = a ∨ z.2.1 ≠ q) : am_up (toH D) a (.inl (κ, n, updV (fun j => .long (gL D q j)) j (.long v))) = toH (sL D q j v) :=
  toH_upA (q := q) hr (by rw [hl, fA_sL]) rfl (by unfold fM; rw [gL_sL, if_neg (fun z => h0 z.symm)]; rfl) (fun q' hq => aC_sL q' hq) rfl (fun i => rfl) ht rfl rfl rfl
theorem he_F {v : UInt64} {j : Nat} (hr : isRec a = true) (hl : ∀ D, tC D a = some (.inl (κ, n, fun j => .double (gF D q j)))) (ht : ∀ z ∈ aT, z.1 = a ∨ z.2.1 ≠ q) : am_up (toH D) a (.inl (κ, n, updV (fun j => .double (gF D q j)) j (.double v))) = toH (sF D q j v) :=
  toH_upA (q := q) hr (by rw [hl, fA_sF]) rfl rfl (fun q' hq => aC_sF q' hq) rfl (fun i => rfl) ht rfl rfl rfl
theorem he_Q {v : Option Nat} {j : Nat} (hr : isRec a = true) (hl : ∀ D, tC D a = some (.inl (κ, n, fun j => va_rf (gQ D q j)))) (ht : ∀ z ∈ aT, z.1 = a ∨ z.2.1 ≠ q) : am_up (toH D) a (.inl (κ, n, updV (fun j => va_rf (gQ D q j)) j (va_rf v))) = toH (sQ D q j v) :=
  toH_upA (q := q) hr (by rw [hl, fA_sQ]) rfl rfl (fun q' hq => aC_sQ q' hq) rfl (fun i => rfl) ht rfl rfl rfl
end RW
theorem tC29 {D : sS} : (toH D).1 29 = some (.inl (0, 80, fun j => .int (gA D 133 j))) := rfl
theorem he29 {D : sS} {j : Nat} {v : Int32} : am_up (toH D) 29 (.inl (0, 80, updV (fun j => .int (gA D 133 j)) j (.int v))) = toH (sA D 133 j v) := he_A rfl (fun _ => rfl) (by decide) (by decide)
theorem tC30 {D : sS} : (toH D).1 30 = some (.inl (5, 80, fun j => va_rf (gQ D 134 j))) := rfl
theorem he30 {D : sS} {j : Nat} {v : Option Nat} : am_up (toH D) 30 (.inl (5, 80, updV (fun j => va_rf (gQ D 134 j)) j (va_rf v))) = toH (sQ D 134 j v) := he_Q rfl (fun _ => rfl) (by decide)
theorem tC31 {D : sS} : (toH D).1 31 = some (.inl (5, 240, fun j => va_rf (gQ D 137 j))) := rfl
theorem he31 {D : sS} {j : Nat} {v : Option Nat} : am_up (toH D) 31 (.inl (5, 240, updV (fun j => va_rf (gQ D 137 j)) j (va_rf v))) = toH (sQ D 137 j v) := he_Q rfl (fun _ => rfl) (by decide)
theorem tC32 {D : sS} : (toH D).1 32 = some (.inl (0, 60, fun j => .int (gA D 139 j))) := rfl
theorem he32 {D : sS} {j : Nat} {v : Int32} : am_up (toH D) 32 (.inl (0, 60, updV (fun j => .int (gA D 139 j)) j (.int v))) = toH (sA D 139 j v) := he_A rfl (fun _ => rfl) (by decide) (by decide)
theorem tC33 {D : sS} : (toH D).1 33 = some (.inl (6, 400, fun j => va_rf (gQ D 144 j))) := rfl
theorem he33 {D : sS} {j : Nat} {v : Option Nat} : am_up (toH D) 33 (.inl (6, 400, updV (fun j => va_rf (gQ D 144 j)) j (va_rf v))) = toH (sQ D 144 j v) := he_Q rfl (fun _ => rfl) (by decide)
theorem tC34 {D : sS} : (toH D).1 34 = some (.inl (1, 400, fun j => .int (gA D 145 j))) := rfl
theorem he34 {D : sS} {j : Nat} {v : Int32} : am_up (toH D) 34 (.inl (1, 400, updV (fun j => .int (gA D 145 j)) j (.int v))) = toH (sA D 145 j v) := he_A rfl (fun _ => rfl) (by decide) (by decide)
theorem tC35 {D : sS} : (toH D).1 35 = some (.inl (7, 400, fun j => va_rf (gQ D 146 j))) := rfl
theorem he35 {D : sS} {j : Nat} {v : Option Nat} : am_up (toH D) 35 (.inl (7, 400, updV (fun j => va_rf (gQ D 146 j)) j (va_rf v))) = toH (sQ D 146 j v) := he_Q rfl (fun _ => rfl) (by decide)
theorem tC37 {D : sS} : (toH D).1 37 = some (.inl (8, 200, fun j => va_rf (gQ D 150 j))) := rfl
theorem he37 {D : sS} {j : Nat} {v : Option Nat} : am_up (toH D) 37 (.inl (8, 200, updV (fun j => va_rf (gQ D 150 j)) j (va_rf v))) = toH (sQ D 150 j v) := he_Q rfl (fun _ => rfl) (by decide)
theorem tC38 {D : sS} : (toH D).1 38 = some (.inl (1, 501, fun j => .int (gA D 151 j))) := rfl
theorem he38 {D : sS} {j : Nat} {v : Int32} : am_up (toH D) 38 (.inl (1, 501, updV (fun j => .int (gA D 151 j)) j (.int v))) = toH (sA D 151 j v) := he_A rfl (fun _ => rfl) (by decide) (by decide)
theorem tC39 {D : sS} : (toH D).1 39 = some (.inl (9, 501, fun j => va_rf (gQ D 152 j))) := rfl
theorem he39 {D : sS} {j : Nat} {v : Option Nat} : am_up (toH D) 39 (.inl (9, 501, updV (fun j => va_rf (gQ D 152 j)) j (va_rf v))) = toH (sQ D 152 j v) := he_Q rfl (fun _ => rfl) (by decide)
theorem tC41 {D : sS} : (toH D).1 41 = some (.inl (0, 60, fun j => .int (gA D 513 j))) := rfl
theorem he41 {D : sS} {j : Nat} {v : Int32} : am_up (toH D) 41 (.inl (0, 60, updV (fun j => .int (gA D 513 j)) j (.int v))) = toH (sA D 513 j v) := he_A rfl (fun _ => rfl) (by decide) (by decide)
theorem tC42 {D : sS} : (toH D).1 42 = some (.inl (1, 124, fun j => .int (gA D 516 j))) := rfl
theorem he42 {D : sS} {j : Nat} {v : Int32} : am_up (toH D) 42 (.inl (1, 124, updV (fun j => .int (gA D 516 j)) j (.int v))) = toH (sA D 516 j v) := he_A rfl (fun _ => rfl) (by decide) (by decide)
theorem tC43 {D : sS} : (toH D).1 43 = some (.inl (1, 124, fun j => .int (gA D 517 j))) := rfl
theorem he43 {D : sS} {j : Nat} {v : Int32} : am_up (toH D) 43 (.inl (1, 124, updV (fun j => .int (gA D 517 j)) j (.int v))) = toH (sA D 517 j v) := he_A rfl (fun _ => rfl) (by decide) (by decide)
theorem tC44 {D : sS} : (toH D).1 44 = some (.inl (1, 124, fun j => .int (gA D 518 j))) := rfl
theorem he44 {D : sS} {j : Nat} {v : Int32} : am_up (toH D) 44 (.inl (1, 124, updV (fun j => .int (gA D 518 j)) j (.int v))) = toH (sA D 518 j v) := he_A rfl (fun _ => rfl) (by decide) (by decide)
theorem tC45 {D : sS} : (toH D).1 45 = some (.inl (1, 124, fun j => .int (gA D 520 j))) := rfl
theorem he45 {D : sS} {j : Nat} {v : Int32} : am_up (toH D) 45 (.inl (1, 124, updV (fun j => .int (gA D 520 j)) j (.int v))) = toH (sA D 520 j v) := he_A rfl (fun _ => rfl) (by decide) (by decide)
theorem tC46 {D : sS} : (toH D).1 46 = some (.inl (1, 124, fun j => .int (gA D 521 j))) := rfl
theorem he46 {D : sS} {j : Nat} {v : Int32} : am_up (toH D) 46 (.inl (1, 124, updV (fun j => .int (gA D 521 j)) j (.int v))) = toH (sA D 521 j v) := he_A rfl (fun _ => rfl) (by decide) (by decide)
theorem tC47 {D : sS} : (toH D).1 47 = some (.inl (1, 124, fun j => .int (gA D 522 j))) := rfl
theorem he47 {D : sS} {j : Nat} {v : Int32} : am_up (toH D) 47 (.inl (1, 124, updV (fun j => .int (gA D 522 j)) j (.int v))) = toH (sA D 522 j v) := he_A rfl (fun _ => rfl) (by decide) (by decide)
theorem tC48 {D : sS} : (toH D).1 48 = some (.inl (1, 80, fun j => .int (gA D 524 j))) := rfl
theorem he48 {D : sS} {j : Nat} {v : Int32} : am_up (toH D) 48 (.inl (1, 80, updV (fun j => .int (gA D 524 j)) j (.int v))) = toH (sA D 524 j v) := he_A rfl (fun _ => rfl) (by decide) (by decide)
theorem tC49 {D : sS} : (toH D).1 49 = some (.inl (1, 80, fun j => .int (gA D 525 j))) := rfl
theorem he49 {D : sS} {j : Nat} {v : Int32} : am_up (toH D) 49 (.inl (1, 80, updV (fun j => .int (gA D 525 j)) j (.int v))) = toH (sA D 525 j v) := he_A rfl (fun _ => rfl) (by decide) (by decide)
theorem tC50 {D : sS} : (toH D).1 50 = some (.inl (1, 80, fun j => .int (gA D 527 j))) := rfl
theorem he50 {D : sS} {j : Nat} {v : Int32} : am_up (toH D) 50 (.inl (1, 80, updV (fun j => .int (gA D 527 j)) j (.int v))) = toH (sA D 527 j v) := he_A rfl (fun _ => rfl) (by decide) (by decide)
theorem tC51 {D : sS} : (toH D).1 51 = some (.inl (1, 80, fun j => .int (gA D 528 j))) := rfl
theorem he51 {D : sS} {j : Nat} {v : Int32} : am_up (toH D) 51 (.inl (1, 80, updV (fun j => .int (gA D 528 j)) j (.int v))) = toH (sA D 528 j v) := he_A rfl (fun _ => rfl) (by decide) (by decide)
theorem tC52 {D : sS} : (toH D).1 52 = some (.inl (1, 180, fun j => .int (gA D 529 j))) := rfl
theorem he52 {D : sS} {j : Nat} {v : Int32} : am_up (toH D) 52 (.inl (1, 180, updV (fun j => .int (gA D 529 j)) j (.int v))) = toH (sA D 529 j v) := he_A rfl (fun _ => rfl) (by decide) (by decide)
theorem tC53 {D : sS} : (toH D).1 53 = some (.inl (1, 180, fun j => .int (gA D 530 j))) := rfl
theorem he53 {D : sS} {j : Nat} {v : Int32} : am_up (toH D) 53 (.inl (1, 180, updV (fun j => .int (gA D 530 j)) j (.int v))) = toH (sA D 530 j v) := he_A rfl (fun _ => rfl) (by decide) (by decide)
theorem tC54 {D : sS} : (toH D).1 54 = some (.inl (1, 180, fun j => .int (gA D 531 j))) := rfl
theorem he54 {D : sS} {j : Nat} {v : Int32} : am_up (toH D) 54 (.inl (1, 180, updV (fun j => .int (gA D 531 j)) j (.int v))) = toH (sA D 531 j v) := he_A rfl (fun _ => rfl) (by decide) (by decide)
theorem tC55 {D : sS} : (toH D).1 55 = some (.inl (1, 180, fun j => .int (gA D 532 j))) := rfl
theorem he55 {D : sS} {j : Nat} {v : Int32} : am_up (toH D) 55 (.inl (1, 180, updV (fun j => .int (gA D 532 j)) j (.int v))) = toH (sA D 532 j v) := he_A rfl (fun _ => rfl) (by decide) (by decide)
theorem tC56 {D : sS} : (toH D).1 56 = some (.inl (1, 124, fun j => .int (gA D 537 j))) := rfl
theorem he56 {D : sS} {j : Nat} {v : Int32} : am_up (toH D) 56 (.inl (1, 124, updV (fun j => .int (gA D 537 j)) j (.int v))) = toH (sA D 537 j v) := he_A rfl (fun _ => rfl) (by decide) (by decide)
theorem tC57 {D : sS} : (toH D).1 57 = some (.inl (1, 124, fun j => .int (gA D 538 j))) := rfl
theorem he57 {D : sS} {j : Nat} {v : Int32} : am_up (toH D) 57 (.inl (1, 124, updV (fun j => .int (gA D 538 j)) j (.int v))) = toH (sA D 538 j v) := he_A rfl (fun _ => rfl) (by decide) (by decide)
theorem tC58 {D : sS} : (toH D).1 58 = some (.inl (1, 64, fun j => .int (gA D 539 j))) := rfl
theorem he58 {D : sS} {j : Nat} {v : Int32} : am_up (toH D) 58 (.inl (1, 64, updV (fun j => .int (gA D 539 j)) j (.int v))) = toH (sA D 539 j v) := he_A rfl (fun _ => rfl) (by decide) (by decide)
theorem tC59 {D : sS} : (toH D).1 59 = some (.inl (1, 64, fun j => .int (gA D 540 j))) := rfl
theorem he59 {D : sS} {j : Nat} {v : Int32} : am_up (toH D) 59 (.inl (1, 64, updV (fun j => .int (gA D 540 j)) j (.int v))) = toH (sA D 540 j v) := he_A rfl (fun _ => rfl) (by decide) (by decide)
theorem tC60 {D : sS} : (toH D).1 60 = some (.inl (2, 64, fun j => .int (gA D 541 j))) := rfl
theorem he60 {D : sS} {j : Nat} {v : Int32} : am_up (toH D) 60 (.inl (2, 64, updV (fun j => .int (gA D 541 j)) j (.int v))) = toH (sA D 541 j v) := he_A rfl (fun _ => rfl) (by decide) (by decide)
theorem tC61 {D : sS} : (toH D).1 61 = some (.inl (1, 1300, fun j => .int (gA D 543 j))) := rfl
theorem he61 {D : sS} {j : Nat} {v : Int32} : am_up (toH D) 61 (.inl (1, 1300, updV (fun j => .int (gA D 543 j)) j (.int v))) = toH (sA D 543 j v) := he_A rfl (fun _ => rfl) (by decide) (by decide)
theorem tC62 {D : sS} : (toH D).1 62 = some (.inl (1, 1300, fun j => .int (gA D 544 j))) := rfl
theorem he62 {D : sS} {j : Nat} {v : Int32} : am_up (toH D) 62 (.inl (1, 1300, updV (fun j => .int (gA D 544 j)) j (.int v))) = toH (sA D 544 j v) := he_A rfl (fun _ => rfl) (by decide) (by decide)
theorem tC63 {D : sS} : (toH D).1 63 = some (.inl (1, 1300, fun j => .int (gA D 545 j))) := rfl
theorem he63 {D : sS} {j : Nat} {v : Int32} : am_up (toH D) 63 (.inl (1, 1300, updV (fun j => .int (gA D 545 j)) j (.int v))) = toH (sA D 545 j v) := he_A rfl (fun _ => rfl) (by decide) (by decide)
theorem tC64 {D : sS} : (toH D).1 64 = some (.inl (1, 1300, fun j => .int (gA D 546 j))) := rfl
theorem he64 {D : sS} {j : Nat} {v : Int32} : am_up (toH D) 64 (.inl (1, 1300, updV (fun j => .int (gA D 546 j)) j (.int v))) = toH (sA D 546 j v) := he_A rfl (fun _ => rfl) (by decide) (by decide)
theorem tC65 {D : sS} : (toH D).1 65 = some (.inl (1, 120, fun j => .int (gA D 548 j))) := rfl
theorem he65 {D : sS} {j : Nat} {v : Int32} : am_up (toH D) 65 (.inl (1, 120, updV (fun j => .int (gA D 548 j)) j (.int v))) = toH (sA D 548 j v) := he_A rfl (fun _ => rfl) (by decide) (by decide)
theorem tC66 {D : sS} : (toH D).1 66 = some (.inl (1, 60, fun j => .int (gA D 552 j))) := rfl
theorem he66 {D : sS} {j : Nat} {v : Int32} : am_up (toH D) 66 (.inl (1, 60, updV (fun j => .int (gA D 552 j)) j (.int v))) = toH (sA D 552 j v) := he_A rfl (fun _ => rfl) (by decide) (by decide)
theorem tC67 {D : sS} : (toH D).1 67 = some (.inl (1, 260, fun j => .int (gA D 554 j))) := rfl
theorem he67 {D : sS} {j : Nat} {v : Int32} : am_up (toH D) 67 (.inl (1, 260, updV (fun j => .int (gA D 554 j)) j (.int v))) = toH (sA D 554 j v) := he_A rfl (fun _ => rfl) (by decide) (by decide)
theorem tC68 {D : sS} : (toH D).1 68 = some (.inl (1, 160, fun j => .int (gA D 558 j))) := rfl
theorem he68 {D : sS} {j : Nat} {v : Int32} : am_up (toH D) 68 (.inl (1, 160, updV (fun j => .int (gA D 558 j)) j (.int v))) = toH (sA D 558 j v) := he_A rfl (fun _ => rfl) (by decide) (by decide)
theorem tC69 {D : sS} : (toH D).1 69 = some (.inl (1, 220, fun j => .int (gA D 559 j))) := rfl
theorem he69 {D : sS} {j : Nat} {v : Int32} : am_up (toH D) 69 (.inl (1, 220, updV (fun j => .int (gA D 559 j)) j (.int v))) = toH (sA D 559 j v) := he_A rfl (fun _ => rfl) (by decide) (by decide)
theorem tC70 {D : sS} : (toH D).1 70 = some (.inl (0, 80, fun j => .int (gA D 560 j))) := rfl
theorem he70 {D : sS} {j : Nat} {v : Int32} : am_up (toH D) 70 (.inl (0, 80, updV (fun j => .int (gA D 560 j)) j (.int v))) = toH (sA D 560 j v) := he_A rfl (fun _ => rfl) (by decide) (by decide)
theorem tC71 {D : sS} : (toH D).1 71 = some (.inl (3, 200, fun j => .long (gL D 562 j))) := rfl
theorem he71 {D : sS} {j : Nat} {v : Int64} : am_up (toH D) 71 (.inl (3, 200, updV (fun j => .long (gL D 562 j)) j (.long v))) = toH (sL D 562 j v) := he_L rfl (fun _ => rfl) (by decide) (by decide)
theorem tC72 {D : sS} : (toH D).1 72 = some (.inl (1, 502, fun j => .int (gA D 564 j))) := rfl
theorem he72 {D : sS} {j : Nat} {v : Int32} : am_up (toH D) 72 (.inl (1, 502, updV (fun j => .int (gA D 564 j)) j (.int v))) = toH (sA D 564 j v) := he_A rfl (fun _ => rfl) (by decide) (by decide)
theorem tC73 {D : sS} : (toH D).1 73 = some (.inl (1, 502, fun j => .int (gA D 565 j))) := rfl
theorem he73 {D : sS} {j : Nat} {v : Int32} : am_up (toH D) 73 (.inl (1, 502, updV (fun j => .int (gA D 565 j)) j (.int v))) = toH (sA D 565 j v) := he_A rfl (fun _ => rfl) (by decide) (by decide)
theorem tC74 {D : sS} : (toH D).1 74 = some (.inl (3, 4300, fun j => .long (gL D 567 j))) := rfl
theorem he74 {D : sS} {j : Nat} {v : Int64} : am_up (toH D) 74 (.inl (3, 4300, updV (fun j => .long (gL D 567 j)) j (.long v))) = toH (sL D 567 j v) := he_L rfl (fun _ => rfl) (by decide) (by decide)
theorem tC75 {D : sS} : (toH D).1 75 = some (.inl (1, 4300, fun j => .int (gA D 568 j))) := rfl
theorem he75 {D : sS} {j : Nat} {v : Int32} : am_up (toH D) 75 (.inl (1, 4300, updV (fun j => .int (gA D 568 j)) j (.int v))) = toH (sA D 568 j v) := he_A rfl (fun _ => rfl) (by decide) (by decide)
theorem tC76 {D : sS} : (toH D).1 76 = some (.inl (3, 502, fun j => .long (gL D 571 j))) := rfl
theorem he76 {D : sS} {j : Nat} {v : Int64} : am_up (toH D) 76 (.inl (3, 502, updV (fun j => .long (gL D 571 j)) j (.long v))) = toH (sL D 571 j v) := he_L rfl (fun _ => rfl) (by decide) (by decide)
theorem tC77 {D : sS} : (toH D).1 77 = some (.inl (3, 502, fun j => .long (gL D 572 j))) := rfl
theorem he77 {D : sS} {j : Nat} {v : Int64} : am_up (toH D) 77 (.inl (3, 502, updV (fun j => .long (gL D 572 j)) j (.long v))) = toH (sL D 572 j v) := he_L rfl (fun _ => rfl) (by decide) (by decide)
theorem tC78 {D : sS} : (toH D).1 78 = some (.inl (4, 502, fun j => .double (gF D 574 j))) := rfl
theorem he78 {D : sS} {j : Nat} {v : UInt64} : am_up (toH D) 78 (.inl (4, 502, updV (fun j => .double (gF D 574 j)) j (.double v))) = toH (sF D 574 j v) := he_F rfl (fun _ => rfl) (by decide)
theorem tC79 {D : sS} : (toH D).1 79 = some (.inl (3, 80, fun j => .long (gL D 583 j))) := rfl
theorem he79 {D : sS} {j : Nat} {v : Int64} : am_up (toH D) 79 (.inl (3, 80, updV (fun j => .long (gL D 583 j)) j (.long v))) = toH (sL D 583 j v) := he_L rfl (fun _ => rfl) (by decide) (by decide)
theorem tC80 {D : sS} : (toH D).1 80 = some (.inl (3, 1, fun j => .long (gL D 9001 j))) := rfl
theorem he80 {D : sS} {j : Nat} {v : Int64} : am_up (toH D) 80 (.inl (3, 1, updV (fun j => .long (gL D 9001 j)) j (.long v))) = toH (sL D 9001 j v) := he_L rfl (fun _ => rfl) (by decide) (by decide)
theorem tC81 {D : sS} : (toH D).1 81 = some (.inl (4, 1, fun j => .double (gF D 9002 j))) := rfl
theorem he81 {D : sS} {j : Nat} {v : UInt64} : am_up (toH D) 81 (.inl (4, 1, updV (fun j => .double (gF D 9002 j)) j (.double v))) = toH (sF D 9002 j v) := he_F rfl (fun _ => rfl) (by decide)
