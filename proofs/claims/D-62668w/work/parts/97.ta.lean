/-! FunDesk: types in the heap -/
set_option maxRecDepth 100000
def TY (D : sS) (a srt : Nat) (one two cp : Option Nat) (lv st : Int32) : Prop := gO D a = some (.inr (2, [.ref srt, va_rf one, va_rf two, va_rf cp, .int lv, .int st]))
def isT (D : sS) (a : Nat) : Prop := ∃ srt one two cp lv st, TY D a srt one two cp lv st
/-- what a type object is in the graph -/
def TK (D : sS) (G : tG) (a srt : Nat) (one two : Option Nat) : Prop := (srt = 0 ∧ ((one = none ∧ (G a).1 = 0) ∨ ∃ b, one = some b ∧ G a = (6, b, 0) ∧ isT D b)) ∨ (srt = 1 ∧ (G a).1 = 1) ∨ (srt = 2 ∧ (G a).1 = 2) ∨ (srt = 3 ∧ (G a).1 = 3) ∨ (srt = 4 ∧ ∃ b, one = some b ∧ G a = (4, b, 0) ∧ isT D b) ∨ (srt = 5 ∧ ∃ b c, one = some b ∧ two = some c ∧ G a = (5, b, c) ∧ isT D b ∧ isT D c)
def TH (D : sS) (G : tG) (tm : Nat → tE) (ρ : Nat → Nat) : Prop := TG G (82 + gN D) tm ρ ∧ (∀ a srt one two cp lv st, TY D a srt one two cp lv st → a < 82 + gN D ∧ TK D G a srt one two) ∧ ∀ a, ¬ isT D a → (G a).1 = 0
/-- a type that stands for itself -/
def RL (D : sS) (tm : Nat → tE) (r srt : Nat) (one two : Option Nat) : Prop := (srt = 0 ∧ one = none ∧ tm r = .var (r + 3)) ∨ (srt = 1 ∧ tm r = .var 0) ∨ (srt = 2 ∧ tm r = .var 1) ∨ (srt = 3 ∧ tm r = .var 2) ∨ (srt = 4 ∧ ∃ b, one = some b ∧ isT D b ∧ tm r = .neg (tm b)) ∨ (srt = 5 ∧ ∃ b c, one = some b ∧ two = some c ∧ isT D b ∧ isT D c ∧ tm r = .add (tm b) (tm c))
section TA
variable {d : Nat} {D D' : sS} {Q : am_O → am_H → Prop} {a b c l srt N : Nat} {G : tG} {tm : Nat → tE} {ρ : Nat → Nat} {one two cp r t : Option Nat} {lv st x : Int32}
theorem TY.eq {srt' : Nat} {one' two' cp' : Option Nat} {lv' st' : Int32} (h : TY D a srt one two cp lv st) (h' : TY D a srt' one' two' cp' lv' st') : srt = srt' ∧ one = one' ∧ two = two' ∧ cp = cp' ∧ lv = lv' ∧ st = st' := by
  unfold TY at h h'
  rw [h] at h'
  simp only [Option.some.injEq, Sum.inr.injEq, Prod.mk.injEq, List.cons.injEq, Value.ref.injEq, Value.int.injEq, true_and, and_true] at h'
  obtain ⟨h1, h2, h3, h4, h5, h6⟩ := h'
  have rf : ∀ x y : Option Nat, va_rf x = va_rf y → x = y := by
    intro x y h
    cases x <;> cases y <;> simp [va_rf] at h <;> simp [h]
  exact ⟨h1, rf _ _ h2, rf _ _ h3, rf _ _ h4, h5, h6⟩
theorem TH.lt (h : TH D G tm ρ) (ha : isT D a) : a < 82 + gN D := by
  obtain ⟨srt, one, two, cp, lv, st, ht⟩ := ha
  exact (h.2.1 _ _ _ _ _ _ _ ht).1
theorem TH.rl (h : TH D G tm ρ) (ht : TY D a srt one two cp lv st) (hn : srt = 0 → one = none) : RL D tm a srt one two := by
  obtain ⟨hlt, hK⟩ := h.2.1 _ _ _ _ _ _ _ ht
  obtain ⟨h6, g0, g1, g2, g3, g4, g5, g7⟩ := h.1 a hlt
  rcases hK with ⟨e, hK⟩ | ⟨e, hK⟩ | ⟨e, hK⟩ | ⟨e, hK⟩ | ⟨e, b, e1, e2, e3⟩ | ⟨e, b, c, e1, e2, e3, e4, e5⟩
  · rcases hK with ⟨k1, k2⟩ | ⟨b, k1, _⟩
    · exact .inl ⟨e, k1, g0 k2⟩
    · rw [hn e] at k1; cases k1
  · exact .inr (.inl ⟨e, g1 hK⟩)
  · exact .inr (.inr (.inl ⟨e, g2 hK⟩))
  · exact .inr (.inr (.inr (.inl ⟨e, g3 hK⟩)))
  · refine .inr (.inr (.inr (.inr (.inl ⟨e, b, e1, e3, ?_⟩))))
    rw [e2] at g4
    exact (g4 rfl).2
  · refine .inr (.inr (.inr (.inr (.inr ⟨e, b, c, e1, e2, e4, e5, ?_⟩))))
    rw [e3] at g5
    exact (g5 rfl).2.2
theorem TH.fw (h : TH D G tm ρ) (ht : TY D a 0 (some b) two cp lv st) : isT D b ∧ tm a = tm b ∧ ρ b < ρ a := by
  obtain ⟨hlt, hK⟩ := h.2.1 _ _ _ _ _ _ _ ht
  obtain ⟨h6, g0, g1, g2, g3, g4, g5, g7⟩ := h.1 a hlt
  rcases hK with ⟨e, hK⟩ | ⟨e, hK⟩ | ⟨e, hK⟩ | ⟨e, hK⟩ | ⟨e, _⟩ | ⟨e, _⟩
  · rcases hK with ⟨k1, _⟩ | ⟨b', k1, k2, k3⟩
    · cases k1
    · cases k1
      rw [k2] at g7
      exact ⟨k3, (g7 rfl).2⟩
  all_goals omega
/-- behind variables that stand for something -/
theorem f_real (hH : TH D G tm ρ) (ha : isT D a) (hd : 1 ≤ d) (hQ : ∀ r srt one two cp lv st, TY D r srt one two cp lv st → tm r = tm a → RL D tm r srt one two → Q (.inl (some (.ref r))) (toH D)) : AC d 75 [.ref a] (toH D) Q := by
  refine AC.pos hd fun d' _ => ?_
  rw [e75 rfl]
  have key : ∀ (k a w : Nat), ρ a ≤ k → isT D a → (∀ r srt one two cp lv st, TY D r srt one two cp lv st → tm r = tm a → RL D tm r srt one two → Q (.inl (some (.ref r))) (toH D)) → XW 75 d' Q 2 [some (.ref w), some (.ref a)] [] (toH D) := by
    intro k
    induction k with
    | zero =>
      intro a w hk ha hQ
      obtain ⟨srt, one, two, cp, lv, st, ht⟩ := ha
      have hfin : (srt = 0 → one = none) → Q (.inl (some (.ref a))) (toH D) := fun h => hQ a srt one two cp lv st ht rfl (hH.rl ht h)
      have hfw : srt = 0 → ¬ one = none → False := by
        intro h1 h2
        subst h1
        obtain ⟨b, rfl⟩ := Option.ne_none_iff_exists'.mp h2
        have := (hH.fw ht).2.2
        omega
      unfold TY at ht
      rw [x75_2]
      simp only [x75_0, x75_1, x75_3, x75_6, x75_9, x75_12, x75_13, x75_16, x75_16a, x75_19, x75_20, x75_23, x75_24, x75_27, x75_28, gI_sI, gI_sR, gI_sA, gI_sL, gI_sF, gI_sQ, gI_sG, gI_sN, gR_sI, gR_sR, gR_sA, gR_sL, gR_sF, gR_sQ, gR_sG, gR_sN, gA_sI, gA_sR, gA_sA, gA_sL, gA_sF, gA_sQ, gA_sG, gA_sN, gL_sI, gL_sR, gL_sA, gL_sL, gL_sF, gL_sQ, gL_sG, gL_sN, gF_sI, gF_sR, gF_sA, gF_sL, gF_sF, gF_sQ, gF_sG, gF_sN, gQ_sI, gQ_sR, gQ_sA, gQ_sL, gQ_sF, gQ_sQ, gQ_sG, gQ_sN, gN_sI, gN_sR, gN_sA, gN_sL, gN_sF, gN_sQ, gN_sG, gN_sN, gS_sI, gS_sR, gS_sA, gS_sL, gS_sF, gS_sQ, gS_sG, gS_sN, gO_sI, gO_sR, gO_sA, gO_sL, gO_sF, gO_sQ, gO_sN, isR_ref, isR_null, isR_rf, isR2_ref, isR2_null, isR2_rf, am_k_int, am_k_ref, am_k_null, am_k_rf, am_k_none, am_k_long, am_k_double, rf_some, rf_none, KT_ret, KT_void, XP_ap, true_and, and_true, Nat.reduceAdd, Nat.reduceEqDiff, reduceIte, if_true, if_false, eq_self, true_or, or_true, forall_const, not_true_eq_false, not_false_eq_true]
      rw [fO_of ht rfl rfl]
      simp only [x75_0, x75_1, x75_3, x75_6, x75_9, x75_12, x75_13, x75_16, x75_16a, x75_19, x75_20, x75_23, x75_24, x75_27, x75_28, gI_sI, gI_sR, gI_sA, gI_sL, gI_sF, gI_sQ, gI_sG, gI_sN, gR_sI, gR_sR, gR_sA, gR_sL, gR_sF, gR_sQ, gR_sG, gR_sN, gA_sI, gA_sR, gA_sA, gA_sL, gA_sF, gA_sQ, gA_sG, gA_sN, gL_sI, gL_sR, gL_sA, gL_sL, gL_sF, gL_sQ, gL_sG, gL_sN, gF_sI, gF_sR, gF_sA, gF_sL, gF_sF, gF_sQ, gF_sG, gF_sN, gQ_sI, gQ_sR, gQ_sA, gQ_sL, gQ_sF, gQ_sQ, gQ_sG, gQ_sN, gN_sI, gN_sR, gN_sA, gN_sL, gN_sF, gN_sQ, gN_sG, gN_sN, gS_sI, gS_sR, gS_sA, gS_sL, gS_sF, gS_sQ, gS_sG, gS_sN, gO_sI, gO_sR, gO_sA, gO_sL, gO_sF, gO_sQ, gO_sN, isR_ref, isR_null, isR_rf, isR2_ref, isR2_null, isR2_rf, am_k_int, am_k_ref, am_k_null, am_k_rf, am_k_none, am_k_long, am_k_double, rf_some, rf_none, KT_ret, KT_void, XP_ap, true_and, and_true, Nat.reduceAdd, Nat.reduceEqDiff, reduceIte, if_true, if_false, eq_self, true_or, or_true, forall_const, not_true_eq_false, not_false_eq_true]
      rw [fO_of ht rfl rfl]
      simp only [x75_0, x75_1, x75_3, x75_6, x75_9, x75_12, x75_13, x75_16, x75_16a, x75_19, x75_20, x75_23, x75_24, x75_27, x75_28, gI_sI, gI_sR, gI_sA, gI_sL, gI_sF, gI_sQ, gI_sG, gI_sN, gR_sI, gR_sR, gR_sA, gR_sL, gR_sF, gR_sQ, gR_sG, gR_sN, gA_sI, gA_sR, gA_sA, gA_sL, gA_sF, gA_sQ, gA_sG, gA_sN, gL_sI, gL_sR, gL_sA, gL_sL, gL_sF, gL_sQ, gL_sG, gL_sN, gF_sI, gF_sR, gF_sA, gF_sL, gF_sF, gF_sQ, gF_sG, gF_sN, gQ_sI, gQ_sR, gQ_sA, gQ_sL, gQ_sF, gQ_sQ, gQ_sG, gQ_sN, gN_sI, gN_sR, gN_sA, gN_sL, gN_sF, gN_sQ, gN_sG, gN_sN, gS_sI, gS_sR, gS_sA, gS_sL, gS_sF, gS_sQ, gS_sG, gS_sN, gO_sI, gO_sR, gO_sA, gO_sL, gO_sF, gO_sQ, gO_sN, isR_ref, isR_null, isR_rf, isR2_ref, isR2_null, isR2_rf, am_k_int, am_k_ref, am_k_null, am_k_rf, am_k_none, am_k_long, am_k_double, rf_some, rf_none, KT_ret, KT_void, XP_ap, true_and, and_true, Nat.reduceAdd, Nat.reduceEqDiff, reduceIte, if_true, if_false, eq_self, true_or, or_true, forall_const, not_true_eq_false, not_false_eq_true, Value.ref.injEq]
      rw [fO_of ht rfl rfl]
      simp only [x75_0, x75_1, x75_3, x75_6, x75_9, x75_12, x75_13, x75_16, x75_16a, x75_19, x75_20, x75_23, x75_24, x75_27, x75_28, gI_sI, gI_sR, gI_sA, gI_sL, gI_sF, gI_sQ, gI_sG, gI_sN, gR_sI, gR_sR, gR_sA, gR_sL, gR_sF, gR_sQ, gR_sG, gR_sN, gA_sI, gA_sR, gA_sA, gA_sL, gA_sF, gA_sQ, gA_sG, gA_sN, gL_sI, gL_sR, gL_sA, gL_sL, gL_sF, gL_sQ, gL_sG, gL_sN, gF_sI, gF_sR, gF_sA, gF_sL, gF_sF, gF_sQ, gF_sG, gF_sN, gQ_sI, gQ_sR, gQ_sA, gQ_sL, gQ_sF, gQ_sQ, gQ_sG, gQ_sN, gN_sI, gN_sR, gN_sA, gN_sL, gN_sF, gN_sQ, gN_sG, gN_sN, gS_sI, gS_sR, gS_sA, gS_sL, gS_sF, gS_sQ, gS_sG, gS_sN, gO_sI, gO_sR, gO_sA, gO_sL, gO_sF, gO_sQ, gO_sN, isR_ref, isR_null, isR_rf, isR2_ref, isR2_null, isR2_rf, am_k_int, am_k_ref, am_k_null, am_k_rf, am_k_none, am_k_long, am_k_double, rf_some, rf_none, KT_ret, KT_void, XP_ap, true_and, and_true, Nat.reduceAdd, Nat.reduceEqDiff, reduceIte, if_true, if_false, eq_self, true_or, or_true, forall_const, not_true_eq_false, not_false_eq_true]
      exact ⟨fun h => hfin fun z => absurd z h, fun h => ⟨fun h2 => hfin fun _ => h2, fun h2 => (hfw h h2).elim⟩⟩
    | succ k ih =>
      intro a w hk ha hQ
      obtain ⟨srt, one, two, cp, lv, st, ht⟩ := ha
      have hfin : (srt = 0 → one = none) → Q (.inl (some (.ref a))) (toH D) := fun h => hQ a srt one two cp lv st ht rfl (hH.rl ht h)
      have hfw : srt = 0 → ¬ one = none → XW 75 d' Q 2 [some (.ref w), some (va_rf one)] [] (toH D) := by
        intro h1 h2
        subst h1
        obtain ⟨b, rfl⟩ := Option.ne_none_iff_exists'.mp h2
        obtain ⟨f1, f2, f3⟩ := hH.fw ht
        exact ih b w (by omega) f1 (fun r srt one two cp lv st y1 y2 => hQ r srt one two cp lv st y1 (y2.trans f2.symm))
      unfold TY at ht
      rw [x75_2]
      simp only [x75_0, x75_1, x75_3, x75_6, x75_9, x75_12, x75_13, x75_16, x75_16a, x75_19, x75_20, x75_23, x75_24, x75_27, x75_28, gI_sI, gI_sR, gI_sA, gI_sL, gI_sF, gI_sQ, gI_sG, gI_sN, gR_sI, gR_sR, gR_sA, gR_sL, gR_sF, gR_sQ, gR_sG, gR_sN, gA_sI, gA_sR, gA_sA, gA_sL, gA_sF, gA_sQ, gA_sG, gA_sN, gL_sI, gL_sR, gL_sA, gL_sL, gL_sF, gL_sQ, gL_sG, gL_sN, gF_sI, gF_sR, gF_sA, gF_sL, gF_sF, gF_sQ, gF_sG, gF_sN, gQ_sI, gQ_sR, gQ_sA, gQ_sL, gQ_sF, gQ_sQ, gQ_sG, gQ_sN, gN_sI, gN_sR, gN_sA, gN_sL, gN_sF, gN_sQ, gN_sG, gN_sN, gS_sI, gS_sR, gS_sA, gS_sL, gS_sF, gS_sQ, gS_sG, gS_sN, gO_sI, gO_sR, gO_sA, gO_sL, gO_sF, gO_sQ, gO_sN, isR_ref, isR_null, isR_rf, isR2_ref, isR2_null, isR2_rf, am_k_int, am_k_ref, am_k_null, am_k_rf, am_k_none, am_k_long, am_k_double, rf_some, rf_none, KT_ret, KT_void, XP_ap, true_and, and_true, Nat.reduceAdd, Nat.reduceEqDiff, reduceIte, if_true, if_false, eq_self, true_or, or_true, forall_const, not_true_eq_false, not_false_eq_true]
      rw [fO_of ht rfl rfl]
      simp only [x75_0, x75_1, x75_3, x75_6, x75_9, x75_12, x75_13, x75_16, x75_16a, x75_19, x75_20, x75_23, x75_24, x75_27, x75_28, gI_sI, gI_sR, gI_sA, gI_sL, gI_sF, gI_sQ, gI_sG, gI_sN, gR_sI, gR_sR, gR_sA, gR_sL, gR_sF, gR_sQ, gR_sG, gR_sN, gA_sI, gA_sR, gA_sA, gA_sL, gA_sF, gA_sQ, gA_sG, gA_sN, gL_sI, gL_sR, gL_sA, gL_sL, gL_sF, gL_sQ, gL_sG, gL_sN, gF_sI, gF_sR, gF_sA, gF_sL, gF_sF, gF_sQ, gF_sG, gF_sN, gQ_sI, gQ_sR, gQ_sA, gQ_sL, gQ_sF, gQ_sQ, gQ_sG, gQ_sN, gN_sI, gN_sR, gN_sA, gN_sL, gN_sF, gN_sQ, gN_sG, gN_sN, gS_sI, gS_sR, gS_sA, gS_sL, gS_sF, gS_sQ, gS_sG, gS_sN, gO_sI, gO_sR, gO_sA, gO_sL, gO_sF, gO_sQ, gO_sN, isR_ref, isR_null, isR_rf, isR2_ref, isR2_null, isR2_rf, am_k_int, am_k_ref, am_k_null, am_k_rf, am_k_none, am_k_long, am_k_double, rf_some, rf_none, KT_ret, KT_void, XP_ap, true_and, and_true, Nat.reduceAdd, Nat.reduceEqDiff, reduceIte, if_true, if_false, eq_self, true_or, or_true, forall_const, not_true_eq_false, not_false_eq_true]
      rw [fO_of ht rfl rfl]
      simp only [x75_0, x75_1, x75_3, x75_6, x75_9, x75_12, x75_13, x75_16, x75_16a, x75_19, x75_20, x75_23, x75_24, x75_27, x75_28, gI_sI, gI_sR, gI_sA, gI_sL, gI_sF, gI_sQ, gI_sG, gI_sN, gR_sI, gR_sR, gR_sA, gR_sL, gR_sF, gR_sQ, gR_sG, gR_sN, gA_sI, gA_sR, gA_sA, gA_sL, gA_sF, gA_sQ, gA_sG, gA_sN, gL_sI, gL_sR, gL_sA, gL_sL, gL_sF, gL_sQ, gL_sG, gL_sN, gF_sI, gF_sR, gF_sA, gF_sL, gF_sF, gF_sQ, gF_sG, gF_sN, gQ_sI, gQ_sR, gQ_sA, gQ_sL, gQ_sF, gQ_sQ, gQ_sG, gQ_sN, gN_sI, gN_sR, gN_sA, gN_sL, gN_sF, gN_sQ, gN_sG, gN_sN, gS_sI, gS_sR, gS_sA, gS_sL, gS_sF, gS_sQ, gS_sG, gS_sN, gO_sI, gO_sR, gO_sA, gO_sL, gO_sF, gO_sQ, gO_sN, isR_ref, isR_null, isR_rf, isR2_ref, isR2_null, isR2_rf, am_k_int, am_k_ref, am_k_null, am_k_rf, am_k_none, am_k_long, am_k_double, rf_some, rf_none, KT_ret, KT_void, XP_ap, true_and, and_true, Nat.reduceAdd, Nat.reduceEqDiff, reduceIte, if_true, if_false, eq_self, true_or, or_true, forall_const, not_true_eq_false, not_false_eq_true, Value.ref.injEq]
      rw [fO_of ht rfl rfl]
      simp only [x75_0, x75_1, x75_3, x75_6, x75_9, x75_12, x75_13, x75_16, x75_16a, x75_19, x75_20, x75_23, x75_24, x75_27, x75_28, gI_sI, gI_sR, gI_sA, gI_sL, gI_sF, gI_sQ, gI_sG, gI_sN, gR_sI, gR_sR, gR_sA, gR_sL, gR_sF, gR_sQ, gR_sG, gR_sN, gA_sI, gA_sR, gA_sA, gA_sL, gA_sF, gA_sQ, gA_sG, gA_sN, gL_sI, gL_sR, gL_sA, gL_sL, gL_sF, gL_sQ, gL_sG, gL_sN, gF_sI, gF_sR, gF_sA, gF_sL, gF_sF, gF_sQ, gF_sG, gF_sN, gQ_sI, gQ_sR, gQ_sA, gQ_sL, gQ_sF, gQ_sQ, gQ_sG, gQ_sN, gN_sI, gN_sR, gN_sA, gN_sL, gN_sF, gN_sQ, gN_sG, gN_sN, gS_sI, gS_sR, gS_sA, gS_sL, gS_sF, gS_sQ, gS_sG, gS_sN, gO_sI, gO_sR, gO_sA, gO_sL, gO_sF, gO_sQ, gO_sN, isR_ref, isR_null, isR_rf, isR2_ref, isR2_null, isR2_rf, am_k_int, am_k_ref, am_k_null, am_k_rf, am_k_none, am_k_long, am_k_double, rf_some, rf_none, KT_ret, KT_void, XP_ap, true_and, and_true, Nat.reduceAdd, Nat.reduceEqDiff, reduceIte, if_true, if_false, eq_self, true_or, or_true, forall_const, not_true_eq_false, not_false_eq_true]
      exact ⟨fun h => hfin fun z => absurd z h, fun h => ⟨fun h2 => hfin fun _ => h2, fun h2 => hfw h h2⟩⟩
  simp only [x75_0, x75_1, x75_3, x75_6, x75_9, x75_12, x75_13, x75_16, x75_16a, x75_19, x75_20, x75_23, x75_24, x75_27, x75_28, gI_sI, gI_sR, gI_sA, gI_sL, gI_sF, gI_sQ, gI_sG, gI_sN, gR_sI, gR_sR, gR_sA, gR_sL, gR_sF, gR_sQ, gR_sG, gR_sN, gA_sI, gA_sR, gA_sA, gA_sL, gA_sF, gA_sQ, gA_sG, gA_sN, gL_sI, gL_sR, gL_sA, gL_sL, gL_sF, gL_sQ, gL_sG, gL_sN, gF_sI, gF_sR, gF_sA, gF_sL, gF_sF, gF_sQ, gF_sG, gF_sN, gQ_sI, gQ_sR, gQ_sA, gQ_sL, gQ_sF, gQ_sQ, gQ_sG, gQ_sN, gN_sI, gN_sR, gN_sA, gN_sL, gN_sF, gN_sQ, gN_sG, gN_sN, gS_sI, gS_sR, gS_sA, gS_sL, gS_sF, gS_sQ, gS_sG, gS_sN, gO_sI, gO_sR, gO_sA, gO_sL, gO_sF, gO_sQ, gO_sN, isR_ref, isR_null, isR_rf, isR2_ref, isR2_null, isR2_rf, am_k_int, am_k_ref, am_k_null, am_k_rf, am_k_none, am_k_long, am_k_double, rf_some, rf_none, KT_ret, KT_void, XP_ap, true_and, and_true, Nat.reduceAdd, Nat.reduceEqDiff, reduceIte, if_true, if_false, eq_self, true_or, or_true, forall_const, not_true_eq_false, not_false_eq_true]
  exact key _ a a (Nat.le_refl _) ha hQ
theorem isT.co (h : isT D a) : cO D a 2 := by
  obtain ⟨srt, one, two, cp, lv, st, ht⟩ := h
  unfold TY at ht
  unfold cO
  rw [ht]
theorem i32_lt0 {k : Nat} (h : l < k) (hk : k < 1000) : i32 l - i32 k < 0 := by
  rw [Int32.lt_iff_toInt_lt]
  have h1 : (i32 l - i32 k).toInt = (l : Int) - k := by
    rw [Int32.toInt_sub, i32_toInt (by omega), i32_toInt (by omega)]
    apply Int.bmod_eq_of_le <;> omega
  rw [h1]
  show _ < (0 : Int)
  omega
/-- how much room is left -/
theorem f_room (hH : TH D G tm ρ) : ∀ (l a d : Nat) (Q : am_O → am_H → Prop), isT D a → l ≤ 100 → l + 3 ≤ d → (ty_w (tm a) ≤ l → Q (.inl (some (.int (i32 (l - ty_w (tm a)))))) (toH D)) → (¬ ty_w (tm a) ≤ l → ∀ v : Int32, v < 0 → Q (.inl (some (.int v))) (toH D)) → AC d 56 [.ref a, .int (i32 l)] (toH D) Q := by
  intro l
  induction l using Nat.strongRecOn with
  | ind l ih =>
    intro a d Q ha hl hd h1 h0
    refine AC.pos hd fun d' hd' => ?_
    rw [e56 rfl]
    simp only [x56_0, x56_1, x56_4, x56_5, x56_6, x56_7, x56_10, x56_13, x56_16, x56_17, x56_20, x56_21, x56_24, x56_27, x56_30, x56_31, x56_34, x56_35, x56_36, x56_37, x56_38, x56_41, x56_42, x56_45, x56_48, x56_51, x56_52, x56_55, x56_58, x56_61, x56_62, x56_65, x56_66, x56_69, x56_70, x56_71, x56_74, x56_75, x56_78, x56_81, x56_84, x56_85, x56_88, x56_89, x56_92, x56_95, x56_96, gI_sI, gI_sR, gI_sA, gI_sL, gI_sF, gI_sQ, gI_sG, gI_sN, gR_sI, gR_sR, gR_sA, gR_sL, gR_sF, gR_sQ, gR_sG, gR_sN, gA_sI, gA_sR, gA_sA, gA_sL, gA_sF, gA_sQ, gA_sG, gA_sN, gL_sI, gL_sR, gL_sA, gL_sL, gL_sF, gL_sQ, gL_sG, gL_sN, gF_sI, gF_sR, gF_sA, gF_sL, gF_sF, gF_sQ, gF_sG, gF_sN, gQ_sI, gQ_sR, gQ_sA, gQ_sL, gQ_sF, gQ_sQ, gQ_sG, gQ_sN, gN_sI, gN_sR, gN_sA, gN_sL, gN_sF, gN_sQ, gN_sG, gN_sN, gS_sI, gS_sR, gS_sA, gS_sL, gS_sF, gS_sQ, gS_sG, gS_sN, gO_sI, gO_sR, gO_sA, gO_sL, gO_sF, gO_sQ, gO_sN, isR_ref, isR_null, isR_rf, isR2_ref, isR2_null, isR2_rf, am_k_int, am_k_ref, am_k_null, am_k_rf, am_k_none, am_k_long, am_k_double, rf_some, rf_none, KT_ret, KT_void, XP_ap, true_and, and_true, Nat.reduceAdd, Nat.reduceEqDiff, reduceIte, if_true, if_false, eq_self, true_or, or_true, forall_const, not_true_eq_false, not_false_eq_true]
    refine ⟨isT.co ha, f_real hH ha (by omega) fun r srt one two cp lv st ht hr hRL => ?_⟩
    have hf0 : ∀ K, fO D r 2 0 K ↔ K (.ref srt) := fun K => fO_of ht rfl rfl
    have hf1 : ∀ K, fO D r 2 1 K ↔ K (va_rf one) := fun K => fO_of ht rfl rfl
    have hf2 : ∀ K, fO D r 2 2 K ↔ K (va_rf two) := fun K => fO_of ht rfl rfl
    rw [← hr] at h1 h0
    have base : (srt = 0 ∨ srt = 1 ∨ srt = 2 ∨ srt = 3) → ty_w (tm r) = 1 → XW 56 d' Q 5 [some (.ref a), some (.int (i32 l)), some (.ref r), none] [] (toH D) := by
      intro hs hw
      have n4 : (srt = 4) = False := eq_false (by omega)
      have n5 : (srt = 5) = False := eq_false (by omega)
      simp only [x56_0, x56_1, x56_4, x56_5, x56_6, x56_7, x56_10, x56_13, x56_16, x56_17, x56_20, x56_21, x56_24, x56_27, x56_30, x56_31, x56_34, x56_35, x56_36, x56_37, x56_38, x56_41, x56_42, x56_45, x56_48, x56_51, x56_52, x56_55, x56_58, x56_61, x56_62, x56_65, x56_66, x56_69, x56_70, x56_71, x56_74, x56_75, x56_78, x56_81, x56_84, x56_85, x56_88, x56_89, x56_92, x56_95, x56_96, gI_sI, gI_sR, gI_sA, gI_sL, gI_sF, gI_sQ, gI_sG, gI_sN, gR_sI, gR_sR, gR_sA, gR_sL, gR_sF, gR_sQ, gR_sG, gR_sN, gA_sI, gA_sR, gA_sA, gA_sL, gA_sF, gA_sQ, gA_sG, gA_sN, gL_sI, gL_sR, gL_sA, gL_sL, gL_sF, gL_sQ, gL_sG, gL_sN, gF_sI, gF_sR, gF_sA, gF_sL, gF_sF, gF_sQ, gF_sG, gF_sN, gQ_sI, gQ_sR, gQ_sA, gQ_sL, gQ_sF, gQ_sQ, gQ_sG, gQ_sN, gN_sI, gN_sR, gN_sA, gN_sL, gN_sF, gN_sQ, gN_sG, gN_sN, gS_sI, gS_sR, gS_sA, gS_sL, gS_sF, gS_sQ, gS_sG, gS_sN, gO_sI, gO_sR, gO_sA, gO_sL, gO_sF, gO_sQ, gO_sN, isR_ref, isR_null, isR_rf, isR2_ref, isR2_null, isR2_rf, am_k_int, am_k_ref, am_k_null, am_k_rf, am_k_none, am_k_long, am_k_double, rf_some, rf_none, KT_ret, KT_void, XP_ap, true_and, and_true, Nat.reduceAdd, Nat.reduceEqDiff, reduceIte, if_true, if_false, eq_self, true_or, or_true, forall_const, not_true_eq_false, not_false_eq_true, hf0, Value.ref.injEq, n4, n5, false_imp_iff]
      rw [hw] at h1 h0
      have fin : Q (.inl (some (.int (i32 l - 1)))) (toH D) := by
        by_cases hl1 : 1 ≤ l
        · rw [i32_sub1 hl1 (by omega)]; exact h1 hl1
        · exact h0 hl1 _ (i32_lt0 (k := 1) (by omega) (by omega))
      exact ⟨fun _ => ⟨fun _ => fin, fun _ => fin⟩, fun _ => ⟨fun _ => fin, fun _ => fin⟩⟩
    simp only [x56_0, x56_1, x56_4, x56_6, x56_7, x56_10, x56_13, x56_16, x56_17, x56_20, x56_21, x56_24, x56_27, x56_30, x56_31, x56_34, x56_35, x56_36, x56_37, x56_38, x56_41, x56_42, x56_45, x56_48, x56_51, x56_52, x56_55, x56_58, x56_61, x56_62, x56_65, x56_66, x56_69, x56_70, x56_71, x56_74, x56_75, x56_78, x56_81, x56_84, x56_85, x56_88, x56_89, x56_92, x56_95, x56_96, gI_sI, gI_sR, gI_sA, gI_sL, gI_sF, gI_sQ, gI_sG, gI_sN, gR_sI, gR_sR, gR_sA, gR_sL, gR_sF, gR_sQ, gR_sG, gR_sN, gA_sI, gA_sR, gA_sA, gA_sL, gA_sF, gA_sQ, gA_sG, gA_sN, gL_sI, gL_sR, gL_sA, gL_sL, gL_sF, gL_sQ, gL_sG, gL_sN, gF_sI, gF_sR, gF_sA, gF_sL, gF_sF, gF_sQ, gF_sG, gF_sN, gQ_sI, gQ_sR, gQ_sA, gQ_sL, gQ_sF, gQ_sQ, gQ_sG, gQ_sN, gN_sI, gN_sR, gN_sA, gN_sL, gN_sF, gN_sQ, gN_sG, gN_sN, gS_sI, gS_sR, gS_sA, gS_sL, gS_sF, gS_sQ, gS_sG, gS_sN, gO_sI, gO_sR, gO_sA, gO_sL, gO_sF, gO_sQ, gO_sN, isR_ref, isR_null, isR_rf, isR2_ref, isR2_null, isR2_rf, am_k_int, am_k_ref, am_k_null, am_k_rf, am_k_none, am_k_long, am_k_double, rf_some, rf_none, KT_ret, KT_void, XP_ap, true_and, and_true, Nat.reduceAdd, Nat.reduceEqDiff, reduceIte, if_true, if_false, eq_self, true_or, or_true, forall_const, not_true_eq_false, not_false_eq_true]
    rcases hRL with ⟨e, _, e1⟩ | ⟨e, e1⟩ | ⟨e, e1⟩ | ⟨e, e1⟩ | ⟨rfl, b, rfl, e2, e3⟩ | ⟨rfl, b, c, rfl, rfl, e3, e4, e5⟩
    · exact base (by omega) (by rw [e1]; rfl)
    · exact base (by omega) (by rw [e1]; rfl)
    · exact base (by omega) (by rw [e1]; rfl)
    · exact base (by omega) (by rw [e1]; rfl)
    · have hw : ty_w (tm r) = ty_w (tm b) + 2 := by rw [e3]; rfl
      rw [hw] at h1 h0
      simp only [x56_0, x56_1, x56_4, x56_5, x56_6, x56_7, x56_10, x56_13, x56_16, x56_17, x56_20, x56_21, x56_24, x56_27, x56_30, x56_31, x56_34, x56_35, x56_36, x56_37, x56_38, x56_41, x56_42, x56_45, x56_48, x56_51, x56_52, x56_55, x56_58, x56_61, x56_62, x56_65, x56_66, x56_69, x56_70, x56_71, x56_74, x56_75, x56_78, x56_81, x56_84, x56_85, x56_88, x56_89, x56_92, x56_95, x56_96, gI_sI, gI_sR, gI_sA, gI_sL, gI_sF, gI_sQ, gI_sG, gI_sN, gR_sI, gR_sR, gR_sA, gR_sL, gR_sF, gR_sQ, gR_sG, gR_sN, gA_sI, gA_sR, gA_sA, gA_sL, gA_sF, gA_sQ, gA_sG, gA_sN, gL_sI, gL_sR, gL_sA, gL_sL, gL_sF, gL_sQ, gL_sG, gL_sN, gF_sI, gF_sR, gF_sA, gF_sL, gF_sF, gF_sQ, gF_sG, gF_sN, gQ_sI, gQ_sR, gQ_sA, gQ_sL, gQ_sF, gQ_sQ, gQ_sG, gQ_sN, gN_sI, gN_sR, gN_sA, gN_sL, gN_sF, gN_sQ, gN_sG, gN_sN, gS_sI, gS_sR, gS_sA, gS_sL, gS_sF, gS_sQ, gS_sG, gS_sN, gO_sI, gO_sR, gO_sA, gO_sL, gO_sF, gO_sQ, gO_sN, isR_ref, isR_null, isR_rf, isR2_ref, isR2_null, isR2_rf, am_k_int, am_k_ref, am_k_null, am_k_rf, am_k_none, am_k_long, am_k_double, rf_some, rf_none, KT_ret, KT_void, XP_ap, true_and, and_true, Nat.reduceAdd, Nat.reduceEqDiff, reduceIte, if_true, if_false, eq_self, true_or, or_true, forall_const, not_true_eq_false, not_false_eq_true, hf0, hf1, Value.ref.injEq, false_imp_iff, true_imp_iff]
      by_cases hl2 : l < 2
      · have hneg : i32 l - 2 < 0 := i32_lt0 (k := 2) hl2 (by omega)
        exact ⟨fun _ => ⟨fun _ => h0 (by omega) _ hneg, fun z => absurd hneg z⟩, fun z => absurd hneg z⟩
      · have e6 : i32 l - 2 = i32 (l - 2) := i32_sub2 (by omega) (by omega)
        rw [e6]
        refine ⟨fun z => absurd z (i32_neg (by omega)), fun _ => ?_⟩
        refine ih (l - 2) (by omega) b d' _ e2 (by omega) (by omega) (fun hw1 => ?_) (fun hw1 v hv => ?_)
        · simp only [x56_0, x56_1, x56_4, x56_5, x56_6, x56_7, x56_10, x56_13, x56_16, x56_17, x56_20, x56_21, x56_24, x56_27, x56_30, x56_31, x56_34, x56_35, x56_36, x56_37, x56_38, x56_41, x56_42, x56_45, x56_48, x56_51, x56_52, x56_55, x56_58, x56_61, x56_62, x56_65, x56_66, x56_69, x56_70, x56_71, x56_74, x56_75, x56_78, x56_81, x56_84, x56_85, x56_88, x56_89, x56_92, x56_95, x56_96, gI_sI, gI_sR, gI_sA, gI_sL, gI_sF, gI_sQ, gI_sG, gI_sN, gR_sI, gR_sR, gR_sA, gR_sL, gR_sF, gR_sQ, gR_sG, gR_sN, gA_sI, gA_sR, gA_sA, gA_sL, gA_sF, gA_sQ, gA_sG, gA_sN, gL_sI, gL_sR, gL_sA, gL_sL, gL_sF, gL_sQ, gL_sG, gL_sN, gF_sI, gF_sR, gF_sA, gF_sL, gF_sF, gF_sQ, gF_sG, gF_sN, gQ_sI, gQ_sR, gQ_sA, gQ_sL, gQ_sF, gQ_sQ, gQ_sG, gQ_sN, gN_sI, gN_sR, gN_sA, gN_sL, gN_sF, gN_sQ, gN_sG, gN_sN, gS_sI, gS_sR, gS_sA, gS_sL, gS_sF, gS_sQ, gS_sG, gS_sN, gO_sI, gO_sR, gO_sA, gO_sL, gO_sF, gO_sQ, gO_sN, isR_ref, isR_null, isR_rf, isR2_ref, isR2_null, isR2_rf, am_k_int, am_k_ref, am_k_null, am_k_rf, am_k_none, am_k_long, am_k_double, rf_some, rf_none, KT_ret, KT_void, XP_ap, true_and, and_true, Nat.reduceAdd, Nat.reduceEqDiff, reduceIte, if_true, if_false, eq_self, true_or, or_true, forall_const, not_true_eq_false, not_false_eq_true, hf0, hf1, Value.ref.injEq, false_imp_iff, true_imp_iff]
          have e7 : l - 2 - ty_w (tm b) = l - (ty_w (tm b) + 2) := by omega
          rw [e7]
          exact ⟨fun _ => h1 (by omega), fun _ => h1 (by omega)⟩
        · simp only [x56_0, x56_1, x56_4, x56_5, x56_6, x56_7, x56_10, x56_13, x56_16, x56_17, x56_20, x56_21, x56_24, x56_27, x56_30, x56_31, x56_34, x56_35, x56_36, x56_37, x56_38, x56_41, x56_42, x56_45, x56_48, x56_51, x56_52, x56_55, x56_58, x56_61, x56_62, x56_65, x56_66, x56_69, x56_70, x56_71, x56_74, x56_75, x56_78, x56_81, x56_84, x56_85, x56_88, x56_89, x56_92, x56_95, x56_96, gI_sI, gI_sR, gI_sA, gI_sL, gI_sF, gI_sQ, gI_sG, gI_sN, gR_sI, gR_sR, gR_sA, gR_sL, gR_sF, gR_sQ, gR_sG, gR_sN, gA_sI, gA_sR, gA_sA, gA_sL, gA_sF, gA_sQ, gA_sG, gA_sN, gL_sI, gL_sR, gL_sA, gL_sL, gL_sF, gL_sQ, gL_sG, gL_sN, gF_sI, gF_sR, gF_sA, gF_sL, gF_sF, gF_sQ, gF_sG, gF_sN, gQ_sI, gQ_sR, gQ_sA, gQ_sL, gQ_sF, gQ_sQ, gQ_sG, gQ_sN, gN_sI, gN_sR, gN_sA, gN_sL, gN_sF, gN_sQ, gN_sG, gN_sN, gS_sI, gS_sR, gS_sA, gS_sL, gS_sF, gS_sQ, gS_sG, gS_sN, gO_sI, gO_sR, gO_sA, gO_sL, gO_sF, gO_sQ, gO_sN, isR_ref, isR_null, isR_rf, isR2_ref, isR2_null, isR2_rf, am_k_int, am_k_ref, am_k_null, am_k_rf, am_k_none, am_k_long, am_k_double, rf_some, rf_none, KT_ret, KT_void, XP_ap, true_and, and_true, Nat.reduceAdd, Nat.reduceEqDiff, reduceIte, if_true, if_false, eq_self, true_or, or_true, forall_const, not_true_eq_false, not_false_eq_true, hf0, hf1, Value.ref.injEq, false_imp_iff, true_imp_iff]
          exact ⟨fun _ => h0 (by omega) v hv, fun z => absurd hv z⟩
    · have hw : ty_w (tm r) = ty_w (tm b) + ty_w (tm c) + 3 := by rw [e5]; rfl
      rw [hw] at h1 h0
      simp only [x56_0, x56_1, x56_4, x56_5, x56_6, x56_7, x56_10, x56_13, x56_16, x56_17, x56_20, x56_21, x56_24, x56_27, x56_30, x56_31, x56_34, x56_35, x56_36, x56_37, x56_38, x56_41, x56_42, x56_45, x56_48, x56_51, x56_52, x56_55, x56_58, x56_61, x56_62, x56_65, x56_66, x56_69, x56_70, x56_71, x56_74, x56_75, x56_78, x56_81, x56_84, x56_85, x56_88, x56_89, x56_92, x56_95, x56_96, gI_sI, gI_sR, gI_sA, gI_sL, gI_sF, gI_sQ, gI_sG, gI_sN, gR_sI, gR_sR, gR_sA, gR_sL, gR_sF, gR_sQ, gR_sG, gR_sN, gA_sI, gA_sR, gA_sA, gA_sL, gA_sF, gA_sQ, gA_sG, gA_sN, gL_sI, gL_sR, gL_sA, gL_sL, gL_sF, gL_sQ, gL_sG, gL_sN, gF_sI, gF_sR, gF_sA, gF_sL, gF_sF, gF_sQ, gF_sG, gF_sN, gQ_sI, gQ_sR, gQ_sA, gQ_sL, gQ_sF, gQ_sQ, gQ_sG, gQ_sN, gN_sI, gN_sR, gN_sA, gN_sL, gN_sF, gN_sQ, gN_sG, gN_sN, gS_sI, gS_sR, gS_sA, gS_sL, gS_sF, gS_sQ, gS_sG, gS_sN, gO_sI, gO_sR, gO_sA, gO_sL, gO_sF, gO_sQ, gO_sN, isR_ref, isR_null, isR_rf, isR2_ref, isR2_null, isR2_rf, am_k_int, am_k_ref, am_k_null, am_k_rf, am_k_none, am_k_long, am_k_double, rf_some, rf_none, KT_ret, KT_void, XP_ap, true_and, and_true, Nat.reduceAdd, Nat.reduceEqDiff, reduceIte, if_true, if_false, eq_self, true_or, or_true, forall_const, not_true_eq_false, not_false_eq_true, hf0, hf1, hf2, Value.ref.injEq, false_imp_iff, true_imp_iff]
      by_cases hl2 : l < 3
      · have hneg : i32 l - 3 < 0 := i32_lt0 (k := 3) hl2 (by omega)
        exact ⟨fun _ => ⟨fun _ => h0 (by omega) _ hneg, fun z => absurd hneg z⟩, fun z => absurd hneg z⟩
      · have e6 : i32 l - 3 = i32 (l - 3) := i32_sub (b := 3) (by omega) (by omega)
        rw [e6]
        refine ⟨fun z => absurd z (i32_neg (by omega)), fun _ => ?_⟩
        refine ih (l - 3) (by omega) b d' _ e3 (by omega) (by omega) (fun hw1 => ?_) (fun hw1 v hv => ?_)
        · simp only [x56_0, x56_1, x56_4, x56_5, x56_6, x56_7, x56_10, x56_13, x56_16, x56_17, x56_20, x56_21, x56_24, x56_27, x56_30, x56_31, x56_34, x56_35, x56_36, x56_37, x56_38, x56_41, x56_42, x56_45, x56_48, x56_51, x56_52, x56_55, x56_58, x56_61, x56_62, x56_65, x56_66, x56_69, x56_70, x56_71, x56_74, x56_75, x56_78, x56_81, x56_84, x56_85, x56_88, x56_89, x56_92, x56_95, x56_96, gI_sI, gI_sR, gI_sA, gI_sL, gI_sF, gI_sQ, gI_sG, gI_sN, gR_sI, gR_sR, gR_sA, gR_sL, gR_sF, gR_sQ, gR_sG, gR_sN, gA_sI, gA_sR, gA_sA, gA_sL, gA_sF, gA_sQ, gA_sG, gA_sN, gL_sI, gL_sR, gL_sA, gL_sL, gL_sF, gL_sQ, gL_sG, gL_sN, gF_sI, gF_sR, gF_sA, gF_sL, gF_sF, gF_sQ, gF_sG, gF_sN, gQ_sI, gQ_sR, gQ_sA, gQ_sL, gQ_sF, gQ_sQ, gQ_sG, gQ_sN, gN_sI, gN_sR, gN_sA, gN_sL, gN_sF, gN_sQ, gN_sG, gN_sN, gS_sI, gS_sR, gS_sA, gS_sL, gS_sF, gS_sQ, gS_sG, gS_sN, gO_sI, gO_sR, gO_sA, gO_sL, gO_sF, gO_sQ, gO_sN, isR_ref, isR_null, isR_rf, isR2_ref, isR2_null, isR2_rf, am_k_int, am_k_ref, am_k_null, am_k_rf, am_k_none, am_k_long, am_k_double, rf_some, rf_none, KT_ret, KT_void, XP_ap, true_and, and_true, Nat.reduceAdd, Nat.reduceEqDiff, reduceIte, if_true, if_false, eq_self, true_or, or_true, forall_const, not_true_eq_false, not_false_eq_true, hf0, hf1, hf2, Value.ref.injEq, false_imp_iff, true_imp_iff]
          refine ⟨fun z => absurd z (i32_neg (by omega)), fun _ => ?_⟩
          refine ih (l - 3 - ty_w (tm b)) (by omega) c d' _ e4 (by omega) (by omega) (fun hw2 => ?_) (fun hw2 v hv => ?_)
          · simp only [x56_0, x56_1, x56_4, x56_5, x56_6, x56_7, x56_10, x56_13, x56_16, x56_17, x56_20, x56_21, x56_24, x56_27, x56_30, x56_31, x56_34, x56_35, x56_36, x56_37, x56_38, x56_41, x56_42, x56_45, x56_48, x56_51, x56_52, x56_55, x56_58, x56_61, x56_62, x56_65, x56_66, x56_69, x56_70, x56_71, x56_74, x56_75, x56_78, x56_81, x56_84, x56_85, x56_88, x56_89, x56_92, x56_95, x56_96, gI_sI, gI_sR, gI_sA, gI_sL, gI_sF, gI_sQ, gI_sG, gI_sN, gR_sI, gR_sR, gR_sA, gR_sL, gR_sF, gR_sQ, gR_sG, gR_sN, gA_sI, gA_sR, gA_sA, gA_sL, gA_sF, gA_sQ, gA_sG, gA_sN, gL_sI, gL_sR, gL_sA, gL_sL, gL_sF, gL_sQ, gL_sG, gL_sN, gF_sI, gF_sR, gF_sA, gF_sL, gF_sF, gF_sQ, gF_sG, gF_sN, gQ_sI, gQ_sR, gQ_sA, gQ_sL, gQ_sF, gQ_sQ, gQ_sG, gQ_sN, gN_sI, gN_sR, gN_sA, gN_sL, gN_sF, gN_sQ, gN_sG, gN_sN, gS_sI, gS_sR, gS_sA, gS_sL, gS_sF, gS_sQ, gS_sG, gS_sN, gO_sI, gO_sR, gO_sA, gO_sL, gO_sF, gO_sQ, gO_sN, isR_ref, isR_null, isR_rf, isR2_ref, isR2_null, isR2_rf, am_k_int, am_k_ref, am_k_null, am_k_rf, am_k_none, am_k_long, am_k_double, rf_some, rf_none, KT_ret, KT_void, XP_ap, true_and, and_true, Nat.reduceAdd, Nat.reduceEqDiff, reduceIte, if_true, if_false, eq_self, true_or, or_true, forall_const, not_true_eq_false, not_false_eq_true, hf0, hf1, hf2, Value.ref.injEq, false_imp_iff, true_imp_iff]
            have e7 : l - 3 - ty_w (tm b) - ty_w (tm c) = l - (ty_w (tm b) + ty_w (tm c) + 3) := by omega
            rw [e7]
            exact h1 (by omega)
          · simp only [x56_0, x56_1, x56_4, x56_5, x56_6, x56_7, x56_10, x56_13, x56_16, x56_17, x56_20, x56_21, x56_24, x56_27, x56_30, x56_31, x56_34, x56_35, x56_36, x56_37, x56_38, x56_41, x56_42, x56_45, x56_48, x56_51, x56_52, x56_55, x56_58, x56_61, x56_62, x56_65, x56_66, x56_69, x56_70, x56_71, x56_74, x56_75, x56_78, x56_81, x56_84, x56_85, x56_88, x56_89, x56_92, x56_95, x56_96, gI_sI, gI_sR, gI_sA, gI_sL, gI_sF, gI_sQ, gI_sG, gI_sN, gR_sI, gR_sR, gR_sA, gR_sL, gR_sF, gR_sQ, gR_sG, gR_sN, gA_sI, gA_sR, gA_sA, gA_sL, gA_sF, gA_sQ, gA_sG, gA_sN, gL_sI, gL_sR, gL_sA, gL_sL, gL_sF, gL_sQ, gL_sG, gL_sN, gF_sI, gF_sR, gF_sA, gF_sL, gF_sF, gF_sQ, gF_sG, gF_sN, gQ_sI, gQ_sR, gQ_sA, gQ_sL, gQ_sF, gQ_sQ, gQ_sG, gQ_sN, gN_sI, gN_sR, gN_sA, gN_sL, gN_sF, gN_sQ, gN_sG, gN_sN, gS_sI, gS_sR, gS_sA, gS_sL, gS_sF, gS_sQ, gS_sG, gS_sN, gO_sI, gO_sR, gO_sA, gO_sL, gO_sF, gO_sQ, gO_sN, isR_ref, isR_null, isR_rf, isR2_ref, isR2_null, isR2_rf, am_k_int, am_k_ref, am_k_null, am_k_rf, am_k_none, am_k_long, am_k_double, rf_some, rf_none, KT_ret, KT_void, XP_ap, true_and, and_true, Nat.reduceAdd, Nat.reduceEqDiff, reduceIte, if_true, if_false, eq_self, true_or, or_true, forall_const, not_true_eq_false, not_false_eq_true, hf0, hf1, hf2, Value.ref.injEq, false_imp_iff, true_imp_iff]
            exact h0 (by omega) v hv
        · simp only [x56_0, x56_1, x56_4, x56_5, x56_6, x56_7, x56_10, x56_13, x56_16, x56_17, x56_20, x56_21, x56_24, x56_27, x56_30, x56_31, x56_34, x56_35, x56_36, x56_37, x56_38, x56_41, x56_42, x56_45, x56_48, x56_51, x56_52, x56_55, x56_58, x56_61, x56_62, x56_65, x56_66, x56_69, x56_70, x56_71, x56_74, x56_75, x56_78, x56_81, x56_84, x56_85, x56_88, x56_89, x56_92, x56_95, x56_96, gI_sI, gI_sR, gI_sA, gI_sL, gI_sF, gI_sQ, gI_sG, gI_sN, gR_sI, gR_sR, gR_sA, gR_sL, gR_sF, gR_sQ, gR_sG, gR_sN, gA_sI, gA_sR, gA_sA, gA_sL, gA_sF, gA_sQ, gA_sG, gA_sN, gL_sI, gL_sR, gL_sA, gL_sL, gL_sF, gL_sQ, gL_sG, gL_sN, gF_sI, gF_sR, gF_sA, gF_sL, gF_sF, gF_sQ, gF_sG, gF_sN, gQ_sI, gQ_sR, gQ_sA, gQ_sL, gQ_sF, gQ_sQ, gQ_sG, gQ_sN, gN_sI, gN_sR, gN_sA, gN_sL, gN_sF, gN_sQ, gN_sG, gN_sN, gS_sI, gS_sR, gS_sA, gS_sL, gS_sF, gS_sQ, gS_sG, gS_sN, gO_sI, gO_sR, gO_sA, gO_sL, gO_sF, gO_sQ, gO_sN, isR_ref, isR_null, isR_rf, isR2_ref, isR2_null, isR2_rf, am_k_int, am_k_ref, am_k_null, am_k_rf, am_k_none, am_k_long, am_k_double, rf_some, rf_none, KT_ret, KT_void, XP_ap, true_and, and_true, Nat.reduceAdd, Nat.reduceEqDiff, reduceIte, if_true, if_false, eq_self, true_or, or_true, forall_const, not_true_eq_false, not_false_eq_true, hf0, hf1, hf2, Value.ref.injEq, false_imp_iff, true_imp_iff]
          exact ⟨fun _ => h0 (by omega) v hv, fun z => absurd hv z⟩
/-- a type must not be too wide -/
theorem f_fit (hH : TH D G tm ρ) (ha : isT D a) (hd : 84 ≤ d) (hcap : capok D 6) (h1 : ty_w (tm a) ≤ 80 → Q (.inl none) (toH D)) (h0 : ¬ ty_w (tm a) ≤ 80 → Q (.inr (82 + gN D, 25)) (toH (sN D (.inr (25, [])) 6))) : AC d 55 [.ref a] (toH D) Q := by
  refine AC.pos hd fun d' hd' => ?_
  rw [e55 rfl]
  simp only [x55_0, x55_1, x55_3, x55_6, x55_9, x55_17, gI_sI, gI_sR, gI_sA, gI_sL, gI_sF, gI_sQ, gI_sG, gI_sN, gR_sI, gR_sR, gR_sA, gR_sL, gR_sF, gR_sQ, gR_sG, gR_sN, gA_sI, gA_sR, gA_sA, gA_sL, gA_sF, gA_sQ, gA_sG, gA_sN, gL_sI, gL_sR, gL_sA, gL_sL, gL_sF, gL_sQ, gL_sG, gL_sN, gF_sI, gF_sR, gF_sA, gF_sL, gF_sF, gF_sQ, gF_sG, gF_sN, gQ_sI, gQ_sR, gQ_sA, gQ_sL, gQ_sF, gQ_sQ, gQ_sG, gQ_sN, gN_sI, gN_sR, gN_sA, gN_sL, gN_sF, gN_sQ, gN_sG, gN_sN, gS_sI, gS_sR, gS_sA, gS_sL, gS_sF, gS_sQ, gS_sG, gS_sN, gO_sI, gO_sR, gO_sA, gO_sL, gO_sF, gO_sQ, gO_sN, isR_ref, isR_null, isR_rf, isR2_ref, isR2_null, isR2_rf, am_k_int, am_k_ref, am_k_null, am_k_rf, am_k_none, am_k_long, am_k_double, rf_some, rf_none, KT_ret, KT_void, XP_ap, true_and, and_true, Nat.reduceAdd, Nat.reduceEqDiff, reduceIte, if_true, if_false, eq_self, true_or, or_true, forall_const, not_true_eq_false, not_false_eq_true]
  show AC d' 56 [.ref a, .int (i32 80)] _ _
  refine f_room hH 80 a d' _ ha (by omega) (by omega) (fun hw => ?_) (fun hw v hv => ?_)
  · simp only [x55_0, x55_1, x55_3, x55_6, x55_9, x55_17, gI_sI, gI_sR, gI_sA, gI_sL, gI_sF, gI_sQ, gI_sG, gI_sN, gR_sI, gR_sR, gR_sA, gR_sL, gR_sF, gR_sQ, gR_sG, gR_sN, gA_sI, gA_sR, gA_sA, gA_sL, gA_sF, gA_sQ, gA_sG, gA_sN, gL_sI, gL_sR, gL_sA, gL_sL, gL_sF, gL_sQ, gL_sG, gL_sN, gF_sI, gF_sR, gF_sA, gF_sL, gF_sF, gF_sQ, gF_sG, gF_sN, gQ_sI, gQ_sR, gQ_sA, gQ_sL, gQ_sF, gQ_sQ, gQ_sG, gQ_sN, gN_sI, gN_sR, gN_sA, gN_sL, gN_sF, gN_sQ, gN_sG, gN_sN, gS_sI, gS_sR, gS_sA, gS_sL, gS_sF, gS_sQ, gS_sG, gS_sN, gO_sI, gO_sR, gO_sA, gO_sL, gO_sF, gO_sQ, gO_sN, isR_ref, isR_null, isR_rf, isR2_ref, isR2_null, isR2_rf, am_k_int, am_k_ref, am_k_null, am_k_rf, am_k_none, am_k_long, am_k_double, rf_some, rf_none, KT_ret, KT_void, XP_ap, true_and, and_true, Nat.reduceAdd, Nat.reduceEqDiff, reduceIte, if_true, if_false, eq_self, true_or, or_true, forall_const, not_true_eq_false, not_false_eq_true]
    exact ⟨fun _ => h1 hw, fun z => absurd z (i32_neg (by omega))⟩
  · simp only [x55_0, x55_1, x55_3, x55_6, x55_9, x55_17, gI_sI, gI_sR, gI_sA, gI_sL, gI_sF, gI_sQ, gI_sG, gI_sN, gR_sI, gR_sR, gR_sA, gR_sL, gR_sF, gR_sQ, gR_sG, gR_sN, gA_sI, gA_sR, gA_sA, gA_sL, gA_sF, gA_sQ, gA_sG, gA_sN, gL_sI, gL_sR, gL_sA, gL_sL, gL_sF, gL_sQ, gL_sG, gL_sN, gF_sI, gF_sR, gF_sA, gF_sL, gF_sF, gF_sQ, gF_sG, gF_sN, gQ_sI, gQ_sR, gQ_sA, gQ_sL, gQ_sF, gQ_sQ, gQ_sG, gQ_sN, gN_sI, gN_sR, gN_sA, gN_sL, gN_sF, gN_sQ, gN_sG, gN_sN, gS_sI, gS_sR, gS_sA, gS_sL, gS_sF, gS_sQ, gS_sG, gS_sN, gO_sI, gO_sR, gO_sA, gO_sL, gO_sF, gO_sQ, gO_sN, isR_ref, isR_null, isR_rf, isR2_ref, isR2_null, isR2_rf, am_k_int, am_k_ref, am_k_null, am_k_rf, am_k_none, am_k_long, am_k_double, rf_some, rf_none, KT_ret, KT_void, XP_ap, true_and, and_true, Nat.reduceAdd, Nat.reduceEqDiff, reduceIte, if_true, if_false, eq_self, true_or, or_true, forall_const, not_true_eq_false, not_false_eq_true]
    exact ⟨fun z => absurd hv z, fun _ => ⟨hcap, h0 hw⟩⟩
end TA
