/-! FunDeskModel, reading: the leaves, 2 -/
set_option maxRecDepth 100000
section MM
variable {d : Nat} {D : sS} {Q : am_O → am_H → Prop} {tx : Nat → Int32} {n p : Nat} {c b : Int32} {h : am_H}
theorem hm_c (h0 : ¬ c = 0) (h1 : ¬ c = 10) : hm tx n p = c ↔ hr tx n p = c := by
  unfold hm hr
  split
  · exact Iff.rfl
  · exact ⟨fun z => absurd z.symm h1, fun z => absurd z.symm h0⟩
theorem hm_dg : dg (hm tx n p) = dg (hr tx n p) := by
  unfold hm hr
  split <;> rfl
theorem hm_lt : lt (hm tx n p) = lt (hr tx n p) := by
  unfold hm hr
  split <;> rfl
theorem hm_bg : bg (hm tx n p) = bg (hr tx n p) := by
  unfold hm hr
  split <;> rfl
theorem m_digit (hd : 1 ≤ d) (hQ : Q (.inl (some (.int (bi (dg c))))) h) : AC d 100 [.int c] h Q := by
  refine AC.pos hd fun d' _ => ?_
  rw [e100]
  simp only [x100_0, x100_1, x100_3, x100_6, x100_7, x100_9, x100_12, x100_13, x100_16, x100_17, gI_sI, gI_sR, gI_sA, gI_sL, gI_sF, gI_sQ, gI_sG, gI_sN, gR_sI, gR_sR, gR_sA, gR_sL, gR_sF, gR_sQ, gR_sG, gR_sN, gA_sI, gA_sR, gA_sA, gA_sL, gA_sF, gA_sQ, gA_sG, gA_sN, gL_sI, gL_sR, gL_sA, gL_sL, gL_sF, gL_sQ, gL_sG, gL_sN, gF_sI, gF_sR, gF_sA, gF_sL, gF_sF, gF_sQ, gF_sG, gF_sN, gQ_sI, gQ_sR, gQ_sA, gQ_sL, gQ_sF, gQ_sQ, gQ_sG, gQ_sN, gN_sI, gN_sR, gN_sA, gN_sL, gN_sF, gN_sQ, gN_sG, gN_sN, gS_sI, gS_sR, gS_sA, gS_sL, gS_sF, gS_sQ, gS_sG, gS_sN, gO_sI, gO_sR, gO_sA, gO_sL, gO_sF, gO_sQ, gO_sN, isR_ref, isR_null, isR_rf, isR2_ref, isR2_null, isR2_rf, am_k_int, am_k_ref, am_k_null, am_k_rf, am_k_none, am_k_long, am_k_double, rf_some, rf_none, KT_ret, KT_void, XP_ap, true_and, and_true, Nat.reduceAdd, Nat.reduceEqDiff, reduceIte, if_true, if_false, eq_self, true_or, or_true, forall_const, not_true_eq_false, not_false_eq_true]
  unfold bi dg at hQ
  refine ⟨fun h => ?_, fun h => ⟨fun h2 => ?_, fun h2 => ?_⟩⟩ <;> simp_all
theorem m_letter (hd : 1 ≤ d) (hQ : Q (.inl (some (.int (bi (lt c))))) h) : AC d 90 [.int c] h Q := by
  refine AC.pos hd fun d' _ => ?_
  rw [e90]
  simp only [x90_0, x90_1, x90_3, x90_6, x90_7, x90_9, x90_12, x90_13, x90_16, x90_17, gI_sI, gI_sR, gI_sA, gI_sL, gI_sF, gI_sQ, gI_sG, gI_sN, gR_sI, gR_sR, gR_sA, gR_sL, gR_sF, gR_sQ, gR_sG, gR_sN, gA_sI, gA_sR, gA_sA, gA_sL, gA_sF, gA_sQ, gA_sG, gA_sN, gL_sI, gL_sR, gL_sA, gL_sL, gL_sF, gL_sQ, gL_sG, gL_sN, gF_sI, gF_sR, gF_sA, gF_sL, gF_sF, gF_sQ, gF_sG, gF_sN, gQ_sI, gQ_sR, gQ_sA, gQ_sL, gQ_sF, gQ_sQ, gQ_sG, gQ_sN, gN_sI, gN_sR, gN_sA, gN_sL, gN_sF, gN_sQ, gN_sG, gN_sN, gS_sI, gS_sR, gS_sA, gS_sL, gS_sF, gS_sQ, gS_sG, gS_sN, gO_sI, gO_sR, gO_sA, gO_sL, gO_sF, gO_sQ, gO_sN, isR_ref, isR_null, isR_rf, isR2_ref, isR2_null, isR2_rf, am_k_int, am_k_ref, am_k_null, am_k_rf, am_k_none, am_k_long, am_k_double, rf_some, rf_none, KT_ret, KT_void, XP_ap, true_and, and_true, Nat.reduceAdd, Nat.reduceEqDiff, reduceIte, if_true, if_false, eq_self, true_or, or_true, forall_const, not_true_eq_false, not_false_eq_true]
  unfold bi lt at hQ
  refine ⟨fun h => ?_, fun h => ⟨fun h2 => ?_, fun h2 => ?_⟩⟩ <;> simp_all
theorem m_begins (hd : 2 ≤ d) (hQ : Q (.inl (some (.int (bi (bg c))))) h) : AC d 99 [.int c] h Q := by
  refine AC.pos hd fun d' hd' => ?_
  rw [e99]
  simp only [x99_0, x99_1, x99_4, x99_7, x99_8, x99_11, x99_14, x99_15, x99_17, x99_20, x99_21, x99_23, x99_26, x99_27, x99_29, x99_32, x99_33, x99_35, x99_38, x99_39, x99_41, x99_44, x99_45, x99_47, x99_50, x99_51, x99_53, x99_56, x99_57, x99_60, x99_61, gI_sI, gI_sR, gI_sA, gI_sL, gI_sF, gI_sQ, gI_sG, gI_sN, gR_sI, gR_sR, gR_sA, gR_sL, gR_sF, gR_sQ, gR_sG, gR_sN, gA_sI, gA_sR, gA_sA, gA_sL, gA_sF, gA_sQ, gA_sG, gA_sN, gL_sI, gL_sR, gL_sA, gL_sL, gL_sF, gL_sQ, gL_sG, gL_sN, gF_sI, gF_sR, gF_sA, gF_sL, gF_sF, gF_sQ, gF_sG, gF_sN, gQ_sI, gQ_sR, gQ_sA, gQ_sL, gQ_sF, gQ_sQ, gQ_sG, gQ_sN, gN_sI, gN_sR, gN_sA, gN_sL, gN_sF, gN_sQ, gN_sG, gN_sN, gS_sI, gS_sR, gS_sA, gS_sL, gS_sF, gS_sQ, gS_sG, gS_sN, gO_sI, gO_sR, gO_sA, gO_sL, gO_sF, gO_sQ, gO_sN, isR_ref, isR_null, isR_rf, isR2_ref, isR2_null, isR2_rf, am_k_int, am_k_ref, am_k_null, am_k_rf, am_k_none, am_k_long, am_k_double, rf_some, rf_none, KT_ret, KT_void, XP_ap, true_and, and_true, Nat.reduceAdd, Nat.reduceEqDiff, reduceIte, if_true, if_false, eq_self, true_or, or_true, forall_const, not_true_eq_false, not_false_eq_true]
  refine m_digit hd' ?_
  simp only [x99_0, x99_1, x99_4, x99_7, x99_8, x99_11, x99_14, x99_15, x99_17, x99_20, x99_21, x99_23, x99_26, x99_27, x99_29, x99_32, x99_33, x99_35, x99_38, x99_39, x99_41, x99_44, x99_45, x99_47, x99_50, x99_51, x99_53, x99_56, x99_57, x99_60, x99_61, gI_sI, gI_sR, gI_sA, gI_sL, gI_sF, gI_sQ, gI_sG, gI_sN, gR_sI, gR_sR, gR_sA, gR_sL, gR_sF, gR_sQ, gR_sG, gR_sN, gA_sI, gA_sR, gA_sA, gA_sL, gA_sF, gA_sQ, gA_sG, gA_sN, gL_sI, gL_sR, gL_sA, gL_sL, gL_sF, gL_sQ, gL_sG, gL_sN, gF_sI, gF_sR, gF_sA, gF_sL, gF_sF, gF_sQ, gF_sG, gF_sN, gQ_sI, gQ_sR, gQ_sA, gQ_sL, gQ_sF, gQ_sQ, gQ_sG, gQ_sN, gN_sI, gN_sR, gN_sA, gN_sL, gN_sF, gN_sQ, gN_sG, gN_sN, gS_sI, gS_sR, gS_sA, gS_sL, gS_sF, gS_sQ, gS_sG, gS_sN, gO_sI, gO_sR, gO_sA, gO_sL, gO_sF, gO_sQ, gO_sN, isR_ref, isR_null, isR_rf, isR2_ref, isR2_null, isR2_rf, am_k_int, am_k_ref, am_k_null, am_k_rf, am_k_none, am_k_long, am_k_double, rf_some, rf_none, KT_ret, KT_void, XP_ap, true_and, and_true, Nat.reduceAdd, Nat.reduceEqDiff, reduceIte, if_true, if_false, eq_self, true_or, or_true, forall_const, not_true_eq_false, not_false_eq_true, bi_ne, Bool.not_eq_false]
  refine ⟨fun h1 => ?_, fun h => ?_⟩
  · have e : bg c = true := by unfold bg; rw [h1]; rfl
    rw [e] at hQ; exact hQ
  · refine m_letter hd' ?_
    simp only [x99_0, x99_1, x99_4, x99_7, x99_8, x99_11, x99_14, x99_15, x99_17, x99_20, x99_21, x99_23, x99_26, x99_27, x99_29, x99_32, x99_33, x99_35, x99_38, x99_39, x99_41, x99_44, x99_45, x99_47, x99_50, x99_51, x99_53, x99_56, x99_57, x99_60, x99_61, gI_sI, gI_sR, gI_sA, gI_sL, gI_sF, gI_sQ, gI_sG, gI_sN, gR_sI, gR_sR, gR_sA, gR_sL, gR_sF, gR_sQ, gR_sG, gR_sN, gA_sI, gA_sR, gA_sA, gA_sL, gA_sF, gA_sQ, gA_sG, gA_sN, gL_sI, gL_sR, gL_sA, gL_sL, gL_sF, gL_sQ, gL_sG, gL_sN, gF_sI, gF_sR, gF_sA, gF_sL, gF_sF, gF_sQ, gF_sG, gF_sN, gQ_sI, gQ_sR, gQ_sA, gQ_sL, gQ_sF, gQ_sQ, gQ_sG, gQ_sN, gN_sI, gN_sR, gN_sA, gN_sL, gN_sF, gN_sQ, gN_sG, gN_sN, gS_sI, gS_sR, gS_sA, gS_sL, gS_sF, gS_sQ, gS_sG, gS_sN, gO_sI, gO_sR, gO_sA, gO_sL, gO_sF, gO_sQ, gO_sN, isR_ref, isR_null, isR_rf, isR2_ref, isR2_null, isR2_rf, am_k_int, am_k_ref, am_k_null, am_k_rf, am_k_none, am_k_long, am_k_double, rf_some, rf_none, KT_ret, KT_void, XP_ap, true_and, and_true, Nat.reduceAdd, Nat.reduceEqDiff, reduceIte, if_true, if_false, eq_self, true_or, or_true, forall_const, not_true_eq_false, not_false_eq_true, bi_ne, Bool.not_eq_false]
    unfold bg at hQ
    rw [h] at hQ
    constructor
    · intro h2; rw [h2] at hQ; exact hQ
    · intro h2
      rw [h2] at hQ
      simp only [Bool.false_or] at hQ
      refine ⟨fun h => ?_, fun h3 => ⟨fun h => ?_, fun h4 => ⟨fun h => ?_, fun h5 => ⟨fun h => ?_, fun h6 => ⟨fun h => ?_, fun h7 => ⟨fun h => ?_, fun h8 => ⟨fun h => ?_, fun h9 => ?_⟩⟩⟩⟩⟩⟩⟩ <;> simp_all [bi]
theorem m_eat (hT : TM D tx n) (hp : gI D 515 = i32 p) (hp2 : p < 900) (hd : 3 ≤ d) (hc0 : ¬ c = 0) (hc1 : ¬ c = 10) (h1 : hr tx n (sk tx n p) = c → Q (.inl (some (.int 1))) (toH (sI D 515 (i32 (sk tx n p + 1))))) (h0 : ¬ hr tx n (sk tx n p) = c → Q (.inl (some (.int 0))) (toH (sI D 515 (i32 (sk tx n p))))) : AC d 92 [.ref 40, .int c] (toH D) Q := by
  refine AC.pos hd fun d' hd' => ?_
  rw [e92]
  simp only [x92_0, x92_1, x92_4, x92_5, x92_8, x92_9, x92_12, x92_13, x92_14, x92_15, x92_16, x92_19, x92_20, x92_23, x92_24, x92_25, x92_28, x92_29, x92_32, x92_35, x92_36, gI_sI, gI_sR, gI_sA, gI_sL, gI_sF, gI_sQ, gI_sG, gI_sN, gR_sI, gR_sR, gR_sA, gR_sL, gR_sF, gR_sQ, gR_sG, gR_sN, gA_sI, gA_sR, gA_sA, gA_sL, gA_sF, gA_sQ, gA_sG, gA_sN, gL_sI, gL_sR, gL_sA, gL_sL, gL_sF, gL_sQ, gL_sG, gL_sN, gF_sI, gF_sR, gF_sA, gF_sL, gF_sF, gF_sQ, gF_sG, gF_sN, gQ_sI, gQ_sR, gQ_sA, gQ_sL, gQ_sF, gQ_sQ, gQ_sG, gQ_sN, gN_sI, gN_sR, gN_sA, gN_sL, gN_sF, gN_sQ, gN_sG, gN_sN, gS_sI, gS_sR, gS_sA, gS_sL, gS_sF, gS_sQ, gS_sG, gS_sN, gO_sI, gO_sR, gO_sA, gO_sL, gO_sF, gO_sQ, gO_sN, isR_ref, isR_null, isR_rf, isR2_ref, isR2_null, isR2_rf, am_k_int, am_k_ref, am_k_null, am_k_rf, am_k_none, am_k_long, am_k_double, rf_some, rf_none, KT_ret, KT_void, XP_ap, true_and, and_true, Nat.reduceAdd, Nat.reduceEqDiff, reduceIte, if_true, if_false, eq_self, true_or, or_true, forall_const, not_true_eq_false, not_false_eq_true]
  refine m_peek hT hp hp2 hd' ?_
  simp only [x92_0, x92_1, x92_4, x92_5, x92_8, x92_9, x92_12, x92_13, x92_14, x92_15, x92_16, x92_19, x92_20, x92_23, x92_24, x92_25, x92_28, x92_29, x92_32, x92_35, x92_36, gI_sI, gI_sR, gI_sA, gI_sL, gI_sF, gI_sQ, gI_sG, gI_sN, gR_sI, gR_sR, gR_sA, gR_sL, gR_sF, gR_sQ, gR_sG, gR_sN, gA_sI, gA_sR, gA_sA, gA_sL, gA_sF, gA_sQ, gA_sG, gA_sN, gL_sI, gL_sR, gL_sA, gL_sL, gL_sF, gL_sQ, gL_sG, gL_sN, gF_sI, gF_sR, gF_sA, gF_sL, gF_sF, gF_sQ, gF_sG, gF_sN, gQ_sI, gQ_sR, gQ_sA, gQ_sL, gQ_sF, gQ_sQ, gQ_sG, gQ_sN, gN_sI, gN_sR, gN_sA, gN_sL, gN_sF, gN_sQ, gN_sG, gN_sN, gS_sI, gS_sR, gS_sA, gS_sL, gS_sF, gS_sQ, gS_sG, gS_sN, gO_sI, gO_sR, gO_sA, gO_sL, gO_sF, gO_sQ, gO_sN, isR_ref, isR_null, isR_rf, isR2_ref, isR2_null, isR2_rf, am_k_int, am_k_ref, am_k_null, am_k_rf, am_k_none, am_k_long, am_k_double, rf_some, rf_none, KT_ret, KT_void, XP_ap, true_and, and_true, Nat.reduceAdd, Nat.reduceEqDiff, reduceIte, if_true, if_false, eq_self, true_or, or_true, forall_const, not_true_eq_false, not_false_eq_true, hm_c hc0 hc1]
  rw [i32_add1, sI_sI, sI_sI]
  exact ⟨fun h => ⟨h0 h, fun z => z.elim⟩, fun h => ⟨fun z => absurd z (by decide), fun _ => h1 h⟩⟩
end MM
