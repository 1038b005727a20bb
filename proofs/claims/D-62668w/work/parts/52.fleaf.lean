/-! FunDesk, reading: the leaves -/
set_option maxRecDepth 100000
def TF (D : sS) (tx : Nat → Int32) (n : Nat) : Prop := gI D 140 = i32 n ∧ n ≤ 60 ∧ (∀ j, j < 60 → gA D 139 j = tx j) ∧ (∀ j, narrow .char (.int (tx j)) = .int (tx j)) ∧ ∀ j, j < n → 32 ≤ tx j ∧ tx j ≤ 126
section FL
variable {d : Nat} {D : sS} {Q : am_O → am_H → Prop} {tx : Nat → Int32} {n p : Nat}
theorem AC.pos {m : Nat} {a : List Value} {h : am_H} {k : Nat} (hd : k + 1 ≤ d) (z : ∀ d', k ≤ d' → AC (d' + 1) m a h Q) : AC d m a h Q := by
  obtain ⟨d', rfl⟩ : ∃ d', d = d' + 1 := ⟨d - 1, by omega⟩
  exact z d' (by omega)
theorem TF.at_ {v : Int32} (hT : TF D tx n) : TF (sI D 141 v) tx n := hT
theorem hr_nar (hT : TF D tx n) : narrow .char (.int (hr tx n p)) = .int (hr tx n p) := by
  unfold hr
  split
  · exact hT.2.2.2.1 p
  · rfl
theorem hr_ch (hT : TF D tx n) : hr tx n p = 0 ∨ (p < n ∧ 32 ≤ hr tx n p ∧ hr tx n p ≤ 126) := by
  unfold hr
  split
  · rename_i h; exact .inr ⟨h, hT.2.2.2.2 p h⟩
  · exact .inl rfl
theorem hr_fit (hT : TF D tx n) : am_fit .char (.int (hr tx n p)) := by
  refine ⟨hr_nar hT, ?_⟩
  unfold fits
  rw [Bool.and_eq_true, decide_eq_true_eq, decide_eq_true_eq]
  rcases hr_ch (p := p) hT with h | ⟨_, h1, h2⟩
  · rw [h]; decide
  · rw [Int32.le_iff_toInt_le] at *
    have e1 : (32 : Int32).toInt = 32 := rfl
    have e2 : (126 : Int32).toInt = 126 := rfl
    have e3 : (0 : Int32).toInt = 0 := rfl
    have e4 : (65535 : Int32).toInt = 65535 := rfl
    rw [Int32.le_iff_toInt_le]
    omega
theorem f_here (hT : TF D tx n) (hp : gI D 141 = i32 p) (hp2 : p < 1000) (hd : 1 ≤ d) (hQ : Q (.inl (some (.int (hr tx n p)))) (toH D)) : AC d 29 [.ref 25] (toH D) Q := by
  refine AC.pos hd fun d' _ => ?_
  have hn := hT.2.1
  have hnar := hr_nar (p := p) hT
  rw [e29]
  simp only [x29_0, x29_1, x29_4, x29_5, x29_8, x29_11, x29_12, x29_15, x29_16, x29_19, x29_20, x29_23, x29_24, gI_sI, gI_sR, gI_sA, gI_sL, gI_sF, gI_sQ, gI_sG, gI_sN, gR_sI, gR_sR, gR_sA, gR_sL, gR_sF, gR_sQ, gR_sG, gR_sN, gA_sI, gA_sR, gA_sA, gA_sL, gA_sF, gA_sQ, gA_sG, gA_sN, gL_sI, gL_sR, gL_sA, gL_sL, gL_sF, gL_sQ, gL_sG, gL_sN, gF_sI, gF_sR, gF_sA, gF_sL, gF_sF, gF_sQ, gF_sG, gF_sN, gQ_sI, gQ_sR, gQ_sA, gQ_sL, gQ_sF, gQ_sQ, gQ_sG, gQ_sN, gN_sI, gN_sR, gN_sA, gN_sL, gN_sF, gN_sQ, gN_sG, gN_sN, gS_sI, gS_sR, gS_sA, gS_sL, gS_sF, gS_sQ, gS_sG, gS_sN, gO_sI, gO_sR, gO_sA, gO_sL, gO_sF, gO_sQ, gO_sN, isR_ref, isR_null, isR_rf, isR2_ref, isR2_null, isR2_rf, am_k_int, am_k_ref, am_k_null, am_k_rf, am_k_none, am_k_long, am_k_double, rf_some, rf_none, KT_ret, KT_void, XP_ap, true_and, and_true, Nat.reduceAdd, Nat.reduceEqDiff, reduceIte, if_true, if_false, eq_self, true_or, or_true, forall_const, not_true_eq_false, not_false_eq_true, hp, hT.1]
  rw [i32_lt (by omega) (by omega), i32_in (by omega), i32_nat (by omega)]
  unfold hr at hQ hnar
  refine ⟨fun h => ?_, fun h => ?_⟩
  · rw [if_neg h] at hQ; exact ⟨rfl, hQ⟩
  · rw [if_pos h] at hQ hnar; rw [hT.2.2.1 p (by omega)]; exact ⟨by omega, hnar, hQ⟩
theorem f_peek (hT : TF D tx n) (hp : gI D 141 = i32 p) (hp2 : p < 900) (hd : 2 ≤ d) (hQ : Q (.inl (some (.int (hr tx n (sk tx n p))))) (toH (sI D 141 (i32 (sk tx n p))))) : AC d 28 [.ref 25] (toH D) Q := by
  refine AC.pos hd fun d' hd' => ?_
  rw [e28]
  have hn := hT.2.1
  have key : ∀ (k p : Nat) (D : sS), n - p ≤ k → TF D tx n → gI D 141 = i32 p → p < 900 → Q (.inl (some (.int (hr tx n (sk tx n p))))) (toH (sI D 141 (i32 (sk tx n p)))) → XW 28 d' Q 0 [some (.ref 25)] [] (toH D) := by
    intro k
    induction k with
    | zero =>
      intro p D hk hT hp hp2 hQ
      have hno : ¬ hr tx n p = 32 := by rw [hr_sp]; omega
      rw [sk_no hno, sI_same hp] at hQ
      rw [x28_0, x28_1]
      refine f_here hT hp (by omega) hd' ?_
      simp only [x28_1, x28_4, x28_6, x28_9, x28_10, x28_11, x28_14, x28_15, x28_16, x28_19, x28_22, x28_23, x28_26, gI_sI, gI_sR, gI_sA, gI_sL, gI_sF, gI_sQ, gI_sG, gI_sN, gR_sI, gR_sR, gR_sA, gR_sL, gR_sF, gR_sQ, gR_sG, gR_sN, gA_sI, gA_sR, gA_sA, gA_sL, gA_sF, gA_sQ, gA_sG, gA_sN, gL_sI, gL_sR, gL_sA, gL_sL, gL_sF, gL_sQ, gL_sG, gL_sN, gF_sI, gF_sR, gF_sA, gF_sL, gF_sF, gF_sQ, gF_sG, gF_sN, gQ_sI, gQ_sR, gQ_sA, gQ_sL, gQ_sF, gQ_sQ, gQ_sG, gQ_sN, gN_sI, gN_sR, gN_sA, gN_sL, gN_sF, gN_sQ, gN_sG, gN_sN, gS_sI, gS_sR, gS_sA, gS_sL, gS_sF, gS_sQ, gS_sG, gS_sN, gO_sI, gO_sR, gO_sA, gO_sL, gO_sF, gO_sQ, gO_sN, isR_ref, isR_null, isR_rf, isR2_ref, isR2_null, isR2_rf, am_k_int, am_k_ref, am_k_null, am_k_rf, am_k_none, am_k_long, am_k_double, rf_some, rf_none, KT_ret, KT_void, XP_ap, true_and, and_true, Nat.reduceAdd, Nat.reduceEqDiff, reduceIte, if_true, if_false, eq_self, true_or, or_true, forall_const, not_true_eq_false, not_false_eq_true]
      refine ⟨fun _ => f_here hT hp (by omega) hd' ?_, fun h => absurd h hno⟩
      simp only [x28_1, x28_4, x28_6, x28_9, x28_10, x28_11, x28_14, x28_15, x28_16, x28_19, x28_22, x28_23, x28_26, gI_sI, gI_sR, gI_sA, gI_sL, gI_sF, gI_sQ, gI_sG, gI_sN, gR_sI, gR_sR, gR_sA, gR_sL, gR_sF, gR_sQ, gR_sG, gR_sN, gA_sI, gA_sR, gA_sA, gA_sL, gA_sF, gA_sQ, gA_sG, gA_sN, gL_sI, gL_sR, gL_sA, gL_sL, gL_sF, gL_sQ, gL_sG, gL_sN, gF_sI, gF_sR, gF_sA, gF_sL, gF_sF, gF_sQ, gF_sG, gF_sN, gQ_sI, gQ_sR, gQ_sA, gQ_sL, gQ_sF, gQ_sQ, gQ_sG, gQ_sN, gN_sI, gN_sR, gN_sA, gN_sL, gN_sF, gN_sQ, gN_sG, gN_sN, gS_sI, gS_sR, gS_sA, gS_sL, gS_sF, gS_sQ, gS_sG, gS_sN, gO_sI, gO_sR, gO_sA, gO_sL, gO_sF, gO_sQ, gO_sN, isR_ref, isR_null, isR_rf, isR2_ref, isR2_null, isR2_rf, am_k_int, am_k_ref, am_k_null, am_k_rf, am_k_none, am_k_long, am_k_double, rf_some, rf_none, KT_ret, KT_void, XP_ap, true_and, and_true, Nat.reduceAdd, Nat.reduceEqDiff, reduceIte, if_true, if_false, eq_self, true_or, or_true, forall_const, not_true_eq_false, not_false_eq_true]
      exact ⟨hr_nar hT, hQ⟩
    | succ k ih =>
      intro p D hk hT hp hp2 hQ
      rw [x28_0, x28_1]
      refine f_here hT hp (by omega) hd' ?_
      simp only [x28_1, x28_4, x28_6, x28_9, x28_10, x28_11, x28_14, x28_15, x28_16, x28_19, x28_22, x28_23, x28_26, gI_sI, gI_sR, gI_sA, gI_sL, gI_sF, gI_sQ, gI_sG, gI_sN, gR_sI, gR_sR, gR_sA, gR_sL, gR_sF, gR_sQ, gR_sG, gR_sN, gA_sI, gA_sR, gA_sA, gA_sL, gA_sF, gA_sQ, gA_sG, gA_sN, gL_sI, gL_sR, gL_sA, gL_sL, gL_sF, gL_sQ, gL_sG, gL_sN, gF_sI, gF_sR, gF_sA, gF_sL, gF_sF, gF_sQ, gF_sG, gF_sN, gQ_sI, gQ_sR, gQ_sA, gQ_sL, gQ_sF, gQ_sQ, gQ_sG, gQ_sN, gN_sI, gN_sR, gN_sA, gN_sL, gN_sF, gN_sQ, gN_sG, gN_sN, gS_sI, gS_sR, gS_sA, gS_sL, gS_sF, gS_sQ, gS_sG, gS_sN, gO_sI, gO_sR, gO_sA, gO_sL, gO_sF, gO_sQ, gO_sN, isR_ref, isR_null, isR_rf, isR2_ref, isR2_null, isR2_rf, am_k_int, am_k_ref, am_k_null, am_k_rf, am_k_none, am_k_long, am_k_double, rf_some, rf_none, KT_ret, KT_void, XP_ap, true_and, and_true, Nat.reduceAdd, Nat.reduceEqDiff, reduceIte, if_true, if_false, eq_self, true_or, or_true, forall_const, not_true_eq_false, not_false_eq_true]
      refine ⟨fun hno => f_here hT hp (by omega) hd' ?_, fun h => ?_⟩
      · simp only [x28_1, x28_4, x28_6, x28_9, x28_10, x28_11, x28_14, x28_15, x28_16, x28_19, x28_22, x28_23, x28_26, gI_sI, gI_sR, gI_sA, gI_sL, gI_sF, gI_sQ, gI_sG, gI_sN, gR_sI, gR_sR, gR_sA, gR_sL, gR_sF, gR_sQ, gR_sG, gR_sN, gA_sI, gA_sR, gA_sA, gA_sL, gA_sF, gA_sQ, gA_sG, gA_sN, gL_sI, gL_sR, gL_sA, gL_sL, gL_sF, gL_sQ, gL_sG, gL_sN, gF_sI, gF_sR, gF_sA, gF_sL, gF_sF, gF_sQ, gF_sG, gF_sN, gQ_sI, gQ_sR, gQ_sA, gQ_sL, gQ_sF, gQ_sQ, gQ_sG, gQ_sN, gN_sI, gN_sR, gN_sA, gN_sL, gN_sF, gN_sQ, gN_sG, gN_sN, gS_sI, gS_sR, gS_sA, gS_sL, gS_sF, gS_sQ, gS_sG, gS_sN, gO_sI, gO_sR, gO_sA, gO_sL, gO_sF, gO_sQ, gO_sN, isR_ref, isR_null, isR_rf, isR2_ref, isR2_null, isR2_rf, am_k_int, am_k_ref, am_k_null, am_k_rf, am_k_none, am_k_long, am_k_double, rf_some, rf_none, KT_ret, KT_void, XP_ap, true_and, and_true, Nat.reduceAdd, Nat.reduceEqDiff, reduceIte, if_true, if_false, eq_self, true_or, or_true, forall_const, not_true_eq_false, not_false_eq_true]
        rw [sk_no hno, sI_same hp] at hQ
        exact ⟨hr_nar hT, hQ⟩
      · rw [hp, i32_add1]
        have h9 := hr_sp.mp h
        refine ih (p + 1) _ (by omega) hT rfl (by omega) ?_
        rw [sI_sI, ← sk_yes h]
        exact hQ
  exact key (n - p) p D (Nat.le_refl _) hT hp hp2 hQ
end FL
