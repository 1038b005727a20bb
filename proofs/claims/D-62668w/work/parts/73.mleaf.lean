/-! FunDeskModel, reading: the leaves -/
set_option maxRecDepth 100000
def hm (tx : Nat → Int32) (n p : Nat) : Int32 := if p < n then tx p else 10
def TM (D : sS) (tx : Nat → Int32) (n : Nat) : Prop := gI D 514 = i32 n ∧ n ≤ 60 ∧ (∀ j, j < 60 → gA D 513 j = tx j) ∧ (∀ j, narrow .char (.int (tx j)) = .int (tx j)) ∧ ∀ j, j < n → 32 ≤ tx j ∧ tx j ≤ 126
section ML
variable {d : Nat} {D : sS} {Q : am_O → am_H → Prop} {tx : Nat → Int32} {n p : Nat}
theorem hm_nar (hT : TM D tx n) : narrow .char (.int (hm tx n p)) = .int (hm tx n p) := by
  unfold hm
  split
  · exact hT.2.2.2.1 p
  · rfl
theorem hm_sp : hm tx n p = 32 ↔ hr tx n p = 32 := by
  unfold hm hr
  split
  · exact Iff.rfl
  · exact ⟨fun z => absurd z (by decide), fun z => absurd z (by decide)⟩
theorem m_here (hT : TM D tx n) (hp : gI D 515 = i32 p) (hp2 : p < 1000) (hd : 1 ≤ d) (hQ : Q (.inl (some (.int (hm tx n p)))) (toH D)) : AC d 87 [.ref 40] (toH D) Q := by
  refine AC.pos hd fun d' _ => ?_
  have hn := hT.2.1
  have hnar := hm_nar (p := p) hT
  rw [e87]
  simp only [x87_0, x87_1, x87_4, x87_5, x87_8, x87_11, x87_12, x87_15, x87_16, x87_19, x87_20, x87_23, x87_25, gI_sI, gI_sR, gI_sA, gI_sL, gI_sF, gI_sQ, gI_sG, gI_sN, gR_sI, gR_sR, gR_sA, gR_sL, gR_sF, gR_sQ, gR_sG, gR_sN, gA_sI, gA_sR, gA_sA, gA_sL, gA_sF, gA_sQ, gA_sG, gA_sN, gL_sI, gL_sR, gL_sA, gL_sL, gL_sF, gL_sQ, gL_sG, gL_sN, gF_sI, gF_sR, gF_sA, gF_sL, gF_sF, gF_sQ, gF_sG, gF_sN, gQ_sI, gQ_sR, gQ_sA, gQ_sL, gQ_sF, gQ_sQ, gQ_sG, gQ_sN, gN_sI, gN_sR, gN_sA, gN_sL, gN_sF, gN_sQ, gN_sG, gN_sN, gS_sI, gS_sR, gS_sA, gS_sL, gS_sF, gS_sQ, gS_sG, gS_sN, gO_sI, gO_sR, gO_sA, gO_sL, gO_sF, gO_sQ, gO_sN, isR_ref, isR_null, isR_rf, isR2_ref, isR2_null, isR2_rf, am_k_int, am_k_ref, am_k_null, am_k_rf, am_k_none, am_k_long, am_k_double, rf_some, rf_none, KT_ret, KT_void, XP_ap, true_and, and_true, Nat.reduceAdd, Nat.reduceEqDiff, reduceIte, if_true, if_false, eq_self, true_or, or_true, forall_const, not_true_eq_false, not_false_eq_true, hp, hT.1]
  rw [i32_lt (by omega) (by omega), i32_in (by omega), i32_nat (by omega)]
  unfold hm at hQ hnar
  refine ⟨fun h => ?_, fun h => ?_⟩
  · rw [if_neg h] at hQ; exact ⟨rfl, hQ⟩
  · rw [if_pos h] at hQ hnar; rw [hT.2.2.1 p (by omega)]; exact ⟨by omega, hnar, hQ⟩
theorem m_peek (hT : TM D tx n) (hp : gI D 515 = i32 p) (hp2 : p < 900) (hd : 2 ≤ d) (hQ : Q (.inl (some (.int (hm tx n (sk tx n p))))) (toH (sI D 515 (i32 (sk tx n p))))) : AC d 86 [.ref 40] (toH D) Q := by
  refine AC.pos hd fun d' hd' => ?_
  rw [e86]
  have hn := hT.2.1
  have key : ∀ (k p : Nat) (D : sS), n - p ≤ k → TM D tx n → gI D 515 = i32 p → p < 900 → Q (.inl (some (.int (hm tx n (sk tx n p))))) (toH (sI D 515 (i32 (sk tx n p)))) → XW 86 d' Q 0 [some (.ref 40)] [] (toH D) := by
    intro k
    induction k with
    | zero =>
      intro p D hk hT hp hp2 hQ
      have hno : ¬ hr tx n p = 32 := by rw [hr_sp]; omega
      have hno' : ¬ hm tx n p = 32 := by rw [hm_sp]; exact hno
      rw [sk_no hno, sI_same hp] at hQ
      rw [x86_0, x86_1]
      refine m_here hT hp (by omega) hd' ?_
      simp only [x86_1, x86_4, x86_6, x86_9, x86_10, x86_11, x86_14, x86_15, x86_16, x86_19, x86_22, x86_23, x86_26, gI_sI, gI_sR, gI_sA, gI_sL, gI_sF, gI_sQ, gI_sG, gI_sN, gR_sI, gR_sR, gR_sA, gR_sL, gR_sF, gR_sQ, gR_sG, gR_sN, gA_sI, gA_sR, gA_sA, gA_sL, gA_sF, gA_sQ, gA_sG, gA_sN, gL_sI, gL_sR, gL_sA, gL_sL, gL_sF, gL_sQ, gL_sG, gL_sN, gF_sI, gF_sR, gF_sA, gF_sL, gF_sF, gF_sQ, gF_sG, gF_sN, gQ_sI, gQ_sR, gQ_sA, gQ_sL, gQ_sF, gQ_sQ, gQ_sG, gQ_sN, gN_sI, gN_sR, gN_sA, gN_sL, gN_sF, gN_sQ, gN_sG, gN_sN, gS_sI, gS_sR, gS_sA, gS_sL, gS_sF, gS_sQ, gS_sG, gS_sN, gO_sI, gO_sR, gO_sA, gO_sL, gO_sF, gO_sQ, gO_sN, isR_ref, isR_null, isR_rf, isR2_ref, isR2_null, isR2_rf, am_k_int, am_k_ref, am_k_null, am_k_rf, am_k_none, am_k_long, am_k_double, rf_some, rf_none, KT_ret, KT_void, XP_ap, true_and, and_true, Nat.reduceAdd, Nat.reduceEqDiff, reduceIte, if_true, if_false, eq_self, true_or, or_true, forall_const, not_true_eq_false, not_false_eq_true]
      refine ⟨fun _ => m_here hT hp (by omega) hd' ?_, fun h => absurd h hno'⟩
      simp only [x86_1, x86_4, x86_6, x86_9, x86_10, x86_11, x86_14, x86_15, x86_16, x86_19, x86_22, x86_23, x86_26, gI_sI, gI_sR, gI_sA, gI_sL, gI_sF, gI_sQ, gI_sG, gI_sN, gR_sI, gR_sR, gR_sA, gR_sL, gR_sF, gR_sQ, gR_sG, gR_sN, gA_sI, gA_sR, gA_sA, gA_sL, gA_sF, gA_sQ, gA_sG, gA_sN, gL_sI, gL_sR, gL_sA, gL_sL, gL_sF, gL_sQ, gL_sG, gL_sN, gF_sI, gF_sR, gF_sA, gF_sL, gF_sF, gF_sQ, gF_sG, gF_sN, gQ_sI, gQ_sR, gQ_sA, gQ_sL, gQ_sF, gQ_sQ, gQ_sG, gQ_sN, gN_sI, gN_sR, gN_sA, gN_sL, gN_sF, gN_sQ, gN_sG, gN_sN, gS_sI, gS_sR, gS_sA, gS_sL, gS_sF, gS_sQ, gS_sG, gS_sN, gO_sI, gO_sR, gO_sA, gO_sL, gO_sF, gO_sQ, gO_sN, isR_ref, isR_null, isR_rf, isR2_ref, isR2_null, isR2_rf, am_k_int, am_k_ref, am_k_null, am_k_rf, am_k_none, am_k_long, am_k_double, rf_some, rf_none, KT_ret, KT_void, XP_ap, true_and, and_true, Nat.reduceAdd, Nat.reduceEqDiff, reduceIte, if_true, if_false, eq_self, true_or, or_true, forall_const, not_true_eq_false, not_false_eq_true]
      exact ⟨hm_nar hT, hQ⟩
    | succ k ih =>
      intro p D hk hT hp hp2 hQ
      rw [x86_0, x86_1]
      refine m_here hT hp (by omega) hd' ?_
      simp only [x86_1, x86_4, x86_6, x86_9, x86_10, x86_11, x86_14, x86_15, x86_16, x86_19, x86_22, x86_23, x86_26, gI_sI, gI_sR, gI_sA, gI_sL, gI_sF, gI_sQ, gI_sG, gI_sN, gR_sI, gR_sR, gR_sA, gR_sL, gR_sF, gR_sQ, gR_sG, gR_sN, gA_sI, gA_sR, gA_sA, gA_sL, gA_sF, gA_sQ, gA_sG, gA_sN, gL_sI, gL_sR, gL_sA, gL_sL, gL_sF, gL_sQ, gL_sG, gL_sN, gF_sI, gF_sR, gF_sA, gF_sL, gF_sF, gF_sQ, gF_sG, gF_sN, gQ_sI, gQ_sR, gQ_sA, gQ_sL, gQ_sF, gQ_sQ, gQ_sG, gQ_sN, gN_sI, gN_sR, gN_sA, gN_sL, gN_sF, gN_sQ, gN_sG, gN_sN, gS_sI, gS_sR, gS_sA, gS_sL, gS_sF, gS_sQ, gS_sG, gS_sN, gO_sI, gO_sR, gO_sA, gO_sL, gO_sF, gO_sQ, gO_sN, isR_ref, isR_null, isR_rf, isR2_ref, isR2_null, isR2_rf, am_k_int, am_k_ref, am_k_null, am_k_rf, am_k_none, am_k_long, am_k_double, rf_some, rf_none, KT_ret, KT_void, XP_ap, true_and, and_true, Nat.reduceAdd, Nat.reduceEqDiff, reduceIte, if_true, if_false, eq_self, true_or, or_true, forall_const, not_true_eq_false, not_false_eq_true]
      refine ⟨fun hno => m_here hT hp (by omega) hd' ?_, fun h => ?_⟩
      · simp only [x86_1, x86_4, x86_6, x86_9, x86_10, x86_11, x86_14, x86_15, x86_16, x86_19, x86_22, x86_23, x86_26, gI_sI, gI_sR, gI_sA, gI_sL, gI_sF, gI_sQ, gI_sG, gI_sN, gR_sI, gR_sR, gR_sA, gR_sL, gR_sF, gR_sQ, gR_sG, gR_sN, gA_sI, gA_sR, gA_sA, gA_sL, gA_sF, gA_sQ, gA_sG, gA_sN, gL_sI, gL_sR, gL_sA, gL_sL, gL_sF, gL_sQ, gL_sG, gL_sN, gF_sI, gF_sR, gF_sA, gF_sL, gF_sF, gF_sQ, gF_sG, gF_sN, gQ_sI, gQ_sR, gQ_sA, gQ_sL, gQ_sF, gQ_sQ, gQ_sG, gQ_sN, gN_sI, gN_sR, gN_sA, gN_sL, gN_sF, gN_sQ, gN_sG, gN_sN, gS_sI, gS_sR, gS_sA, gS_sL, gS_sF, gS_sQ, gS_sG, gS_sN, gO_sI, gO_sR, gO_sA, gO_sL, gO_sF, gO_sQ, gO_sN, isR_ref, isR_null, isR_rf, isR2_ref, isR2_null, isR2_rf, am_k_int, am_k_ref, am_k_null, am_k_rf, am_k_none, am_k_long, am_k_double, rf_some, rf_none, KT_ret, KT_void, XP_ap, true_and, and_true, Nat.reduceAdd, Nat.reduceEqDiff, reduceIte, if_true, if_false, eq_self, true_or, or_true, forall_const, not_true_eq_false, not_false_eq_true]
        rw [hm_sp] at hno
        rw [sk_no hno, sI_same hp] at hQ
        exact ⟨hm_nar hT, hQ⟩
      · rw [hp, i32_add1]
        rw [hm_sp] at h
        have h9 := hr_sp.mp h
        refine ih (p + 1) _ (by omega) hT rfl (by omega) ?_
        rw [sI_sI, ← sk_yes h]
        exact hQ
  exact key (n - p) p D (Nat.le_refl _) hT hp hp2 hQ
end ML
