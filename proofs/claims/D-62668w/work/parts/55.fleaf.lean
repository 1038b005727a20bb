/-! FunDesk, reading: the leaves, 3 -/
set_option maxRecDepth 100000
section FO
variable {d : Nat} {D : sS} {Q : am_O → am_H → Prop} {tx : Nat → Int32} {n p : Nat} {c b : Int32} {h : am_H}
theorem bi_ne {b : Bool} : (bi b = 0) ↔ b = false := by cases b <;> decide
theorem bi_eq {b : Bool} : (¬ bi b = 0) ↔ b = true := by cases b <;> decide
theorem f_begins (hd : 2 ≤ d) (hQ : Q (.inl (some (.int (bi (bg c))))) h) : AC d 37 [.ref 25, .int c] h Q := by
  refine AC.pos hd fun d' hd' => ?_
  rw [e37]
  simp only [x37_0, x37_1, x37_4, x37_7, x37_8, x37_11, x37_14, x37_15, x37_17, x37_20, x37_21, x37_23, x37_26, x37_27, x37_29, x37_32, x37_33, x37_35, x37_38, x37_39, x37_41, x37_44, x37_45, x37_47, x37_50, x37_51, x37_53, x37_56, x37_57, x37_60, x37_61, gI_sI, gI_sR, gI_sA, gI_sL, gI_sF, gI_sQ, gI_sG, gI_sN, gR_sI, gR_sR, gR_sA, gR_sL, gR_sF, gR_sQ, gR_sG, gR_sN, gA_sI, gA_sR, gA_sA, gA_sL, gA_sF, gA_sQ, gA_sG, gA_sN, gL_sI, gL_sR, gL_sA, gL_sL, gL_sF, gL_sQ, gL_sG, gL_sN, gF_sI, gF_sR, gF_sA, gF_sL, gF_sF, gF_sQ, gF_sG, gF_sN, gQ_sI, gQ_sR, gQ_sA, gQ_sL, gQ_sF, gQ_sQ, gQ_sG, gQ_sN, gN_sI, gN_sR, gN_sA, gN_sL, gN_sF, gN_sQ, gN_sG, gN_sN, gS_sI, gS_sR, gS_sA, gS_sL, gS_sF, gS_sQ, gS_sG, gS_sN, gO_sI, gO_sR, gO_sA, gO_sL, gO_sF, gO_sQ, gO_sN, isR_ref, isR_null, isR_rf, isR2_ref, isR2_null, isR2_rf, am_k_int, am_k_ref, am_k_null, am_k_rf, am_k_none, am_k_long, am_k_double, rf_some, rf_none, KT_ret, KT_void, XP_ap, true_and, and_true, Nat.reduceAdd, Nat.reduceEqDiff, reduceIte, if_true, if_false, eq_self, true_or, or_true, forall_const, not_true_eq_false, not_false_eq_true]
  refine f_digit hd' ?_
  simp only [x37_0, x37_1, x37_4, x37_7, x37_8, x37_11, x37_14, x37_15, x37_17, x37_20, x37_21, x37_23, x37_26, x37_27, x37_29, x37_32, x37_33, x37_35, x37_38, x37_39, x37_41, x37_44, x37_45, x37_47, x37_50, x37_51, x37_53, x37_56, x37_57, x37_60, x37_61, gI_sI, gI_sR, gI_sA, gI_sL, gI_sF, gI_sQ, gI_sG, gI_sN, gR_sI, gR_sR, gR_sA, gR_sL, gR_sF, gR_sQ, gR_sG, gR_sN, gA_sI, gA_sR, gA_sA, gA_sL, gA_sF, gA_sQ, gA_sG, gA_sN, gL_sI, gL_sR, gL_sA, gL_sL, gL_sF, gL_sQ, gL_sG, gL_sN, gF_sI, gF_sR, gF_sA, gF_sL, gF_sF, gF_sQ, gF_sG, gF_sN, gQ_sI, gQ_sR, gQ_sA, gQ_sL, gQ_sF, gQ_sQ, gQ_sG, gQ_sN, gN_sI, gN_sR, gN_sA, gN_sL, gN_sF, gN_sQ, gN_sG, gN_sN, gS_sI, gS_sR, gS_sA, gS_sL, gS_sF, gS_sQ, gS_sG, gS_sN, gO_sI, gO_sR, gO_sA, gO_sL, gO_sF, gO_sQ, gO_sN, isR_ref, isR_null, isR_rf, isR2_ref, isR2_null, isR2_rf, am_k_int, am_k_ref, am_k_null, am_k_rf, am_k_none, am_k_long, am_k_double, rf_some, rf_none, KT_ret, KT_void, XP_ap, true_and, and_true, Nat.reduceAdd, Nat.reduceEqDiff, reduceIte, if_true, if_false, eq_self, true_or, or_true, forall_const, not_true_eq_false, not_false_eq_true, bi_ne, Bool.not_eq_false]
  refine ⟨fun h1 => ?_, fun h => ?_⟩
  · have e : bg c = true := by unfold bg; rw [h1]; rfl
    rw [e] at hQ; exact hQ
  · refine f_letter hd' ?_
    simp only [x37_0, x37_1, x37_4, x37_7, x37_8, x37_11, x37_14, x37_15, x37_17, x37_20, x37_21, x37_23, x37_26, x37_27, x37_29, x37_32, x37_33, x37_35, x37_38, x37_39, x37_41, x37_44, x37_45, x37_47, x37_50, x37_51, x37_53, x37_56, x37_57, x37_60, x37_61, gI_sI, gI_sR, gI_sA, gI_sL, gI_sF, gI_sQ, gI_sG, gI_sN, gR_sI, gR_sR, gR_sA, gR_sL, gR_sF, gR_sQ, gR_sG, gR_sN, gA_sI, gA_sR, gA_sA, gA_sL, gA_sF, gA_sQ, gA_sG, gA_sN, gL_sI, gL_sR, gL_sA, gL_sL, gL_sF, gL_sQ, gL_sG, gL_sN, gF_sI, gF_sR, gF_sA, gF_sL, gF_sF, gF_sQ, gF_sG, gF_sN, gQ_sI, gQ_sR, gQ_sA, gQ_sL, gQ_sF, gQ_sQ, gQ_sG, gQ_sN, gN_sI, gN_sR, gN_sA, gN_sL, gN_sF, gN_sQ, gN_sG, gN_sN, gS_sI, gS_sR, gS_sA, gS_sL, gS_sF, gS_sQ, gS_sG, gS_sN, gO_sI, gO_sR, gO_sA, gO_sL, gO_sF, gO_sQ, gO_sN, isR_ref, isR_null, isR_rf, isR2_ref, isR2_null, isR2_rf, am_k_int, am_k_ref, am_k_null, am_k_rf, am_k_none, am_k_long, am_k_double, rf_some, rf_none, KT_ret, KT_void, XP_ap, true_and, and_true, Nat.reduceAdd, Nat.reduceEqDiff, reduceIte, if_true, if_false, eq_self, true_or, or_true, forall_const, not_true_eq_false, not_false_eq_true, bi_ne, Bool.not_eq_false]
    unfold bg at hQ
    rw [h] at hQ
    constructor
    · intro h2; rw [h2] at hQ; exact hQ
    · intro h2
      rw [h2] at hQ
      simp only [Bool.false_or] at hQ
      refine ⟨fun h => ?_, fun h3 => ⟨fun h => ?_, fun h4 => ⟨fun h => ?_, fun h5 => ⟨fun h => ?_, fun h6 => ⟨fun h => ?_, fun h7 => ⟨fun h => ?_, fun h8 => ⟨fun h => ?_, fun h9 => ?_⟩⟩⟩⟩⟩⟩⟩ <;> simp_all [bi]
theorem f_nm (hT : TF D tx n) (hp : gI D 141 = i32 p) (hp2 : p < 900) (hd : 3 ≤ d) (hc : capok D 6) (h1 : lt (hr tx n (sk tx n p)) = true → Q (.inl (some (.int (hr tx n (sk tx n p))))) (toH (sI D 141 (i32 (sk tx n p + 1))))) (h0 : lt (hr tx n (sk tx n p)) = false → Q (.inr (82 + gN D, 23)) (toH (sN (sI D 141 (i32 (sk tx n p))) (.inr (23, [])) 6))) : AC d 50 [.ref 25] (toH D) Q := by
  refine AC.pos hd fun d' hd' => ?_
  rw [e50]
  simp only [x50_0, x50_1, x50_4, x50_5, x50_6, x50_9, x50_12, x50_13, x50_16, x50_17, x50_20, x50_21, x50_22, x50_25, x50_26, x50_27, x50_30, x50_31, gI_sI, gI_sR, gI_sA, gI_sL, gI_sF, gI_sQ, gI_sG, gI_sN, gR_sI, gR_sR, gR_sA, gR_sL, gR_sF, gR_sQ, gR_sG, gR_sN, gA_sI, gA_sR, gA_sA, gA_sL, gA_sF, gA_sQ, gA_sG, gA_sN, gL_sI, gL_sR, gL_sA, gL_sL, gL_sF, gL_sQ, gL_sG, gL_sN, gF_sI, gF_sR, gF_sA, gF_sL, gF_sF, gF_sQ, gF_sG, gF_sN, gQ_sI, gQ_sR, gQ_sA, gQ_sL, gQ_sF, gQ_sQ, gQ_sG, gQ_sN, gN_sI, gN_sR, gN_sA, gN_sL, gN_sF, gN_sQ, gN_sG, gN_sN, gS_sI, gS_sR, gS_sA, gS_sL, gS_sF, gS_sQ, gS_sG, gS_sN, gO_sI, gO_sR, gO_sA, gO_sL, gO_sF, gO_sQ, gO_sN, isR_ref, isR_null, isR_rf, isR2_ref, isR2_null, isR2_rf, am_k_int, am_k_ref, am_k_null, am_k_rf, am_k_none, am_k_long, am_k_double, rf_some, rf_none, KT_ret, KT_void, XP_ap, true_and, and_true, Nat.reduceAdd, Nat.reduceEqDiff, reduceIte, if_true, if_false, eq_self, true_or, or_true, forall_const, not_true_eq_false, not_false_eq_true]
  refine f_peek hT hp hp2 (by omega) ?_
  simp only [x50_0, x50_1, x50_4, x50_5, x50_6, x50_9, x50_12, x50_13, x50_16, x50_17, x50_20, x50_21, x50_22, x50_25, x50_26, x50_27, x50_30, x50_31, gI_sI, gI_sR, gI_sA, gI_sL, gI_sF, gI_sQ, gI_sG, gI_sN, gR_sI, gR_sR, gR_sA, gR_sL, gR_sF, gR_sQ, gR_sG, gR_sN, gA_sI, gA_sR, gA_sA, gA_sL, gA_sF, gA_sQ, gA_sG, gA_sN, gL_sI, gL_sR, gL_sA, gL_sL, gL_sF, gL_sQ, gL_sG, gL_sN, gF_sI, gF_sR, gF_sA, gF_sL, gF_sF, gF_sQ, gF_sG, gF_sN, gQ_sI, gQ_sR, gQ_sA, gQ_sL, gQ_sF, gQ_sQ, gQ_sG, gQ_sN, gN_sI, gN_sR, gN_sA, gN_sL, gN_sF, gN_sQ, gN_sG, gN_sN, gS_sI, gS_sR, gS_sA, gS_sL, gS_sF, gS_sQ, gS_sG, gS_sN, gO_sI, gO_sR, gO_sA, gO_sL, gO_sF, gO_sQ, gO_sN, isR_ref, isR_null, isR_rf, isR2_ref, isR2_null, isR2_rf, am_k_int, am_k_ref, am_k_null, am_k_rf, am_k_none, am_k_long, am_k_double, rf_some, rf_none, KT_ret, KT_void, XP_ap, true_and, and_true, Nat.reduceAdd, Nat.reduceEqDiff, reduceIte, if_true, if_false, eq_self, true_or, or_true, forall_const, not_true_eq_false, not_false_eq_true]
  refine f_letter (by omega) ?_
  simp only [x50_0, x50_1, x50_4, x50_5, x50_6, x50_9, x50_12, x50_13, x50_16, x50_17, x50_20, x50_21, x50_22, x50_25, x50_26, x50_27, x50_30, x50_31, gI_sI, gI_sR, gI_sA, gI_sL, gI_sF, gI_sQ, gI_sG, gI_sN, gR_sI, gR_sR, gR_sA, gR_sL, gR_sF, gR_sQ, gR_sG, gR_sN, gA_sI, gA_sR, gA_sA, gA_sL, gA_sF, gA_sQ, gA_sG, gA_sN, gL_sI, gL_sR, gL_sA, gL_sL, gL_sF, gL_sQ, gL_sG, gL_sN, gF_sI, gF_sR, gF_sA, gF_sL, gF_sF, gF_sQ, gF_sG, gF_sN, gQ_sI, gQ_sR, gQ_sA, gQ_sL, gQ_sF, gQ_sQ, gQ_sG, gQ_sN, gN_sI, gN_sR, gN_sA, gN_sL, gN_sF, gN_sQ, gN_sG, gN_sN, gS_sI, gS_sR, gS_sA, gS_sL, gS_sF, gS_sQ, gS_sG, gS_sN, gO_sI, gO_sR, gO_sA, gO_sL, gO_sF, gO_sQ, gO_sN, isR_ref, isR_null, isR_rf, isR2_ref, isR2_null, isR2_rf, am_k_int, am_k_ref, am_k_null, am_k_rf, am_k_none, am_k_long, am_k_double, rf_some, rf_none, KT_ret, KT_void, XP_ap, true_and, and_true, Nat.reduceAdd, Nat.reduceEqDiff, reduceIte, if_true, if_false, eq_self, true_or, or_true, forall_const, not_true_eq_false, not_false_eq_true, bi_ne, Bool.not_eq_false]
  constructor
  · intro h
    refine f_ill (by omega) hc (fun _ => ?_) (fun h => absurd rfl h)
    simp only [x50_0, x50_1, x50_4, x50_5, x50_6, x50_9, x50_12, x50_13, x50_16, x50_17, x50_20, x50_21, x50_22, x50_25, x50_26, x50_27, x50_30, x50_31, gI_sI, gI_sR, gI_sA, gI_sL, gI_sF, gI_sQ, gI_sG, gI_sN, gR_sI, gR_sR, gR_sA, gR_sL, gR_sF, gR_sQ, gR_sG, gR_sN, gA_sI, gA_sR, gA_sA, gA_sL, gA_sF, gA_sQ, gA_sG, gA_sN, gL_sI, gL_sR, gL_sA, gL_sL, gL_sF, gL_sQ, gL_sG, gL_sN, gF_sI, gF_sR, gF_sA, gF_sL, gF_sF, gF_sQ, gF_sG, gF_sN, gQ_sI, gQ_sR, gQ_sA, gQ_sL, gQ_sF, gQ_sQ, gQ_sG, gQ_sN, gN_sI, gN_sR, gN_sA, gN_sL, gN_sF, gN_sQ, gN_sG, gN_sN, gS_sI, gS_sR, gS_sA, gS_sL, gS_sF, gS_sQ, gS_sG, gS_sN, gO_sI, gO_sR, gO_sA, gO_sL, gO_sF, gO_sQ, gO_sN, isR_ref, isR_null, isR_rf, isR2_ref, isR2_null, isR2_rf, am_k_int, am_k_ref, am_k_null, am_k_rf, am_k_none, am_k_long, am_k_double, rf_some, rf_none, KT_ret, KT_void, XP_ap, true_and, and_true, Nat.reduceAdd, Nat.reduceEqDiff, reduceIte, if_true, if_false, eq_self, true_or, or_true, forall_const, not_true_eq_false, not_false_eq_true]
    rw [i32_add1, sI_sI]
    exact ⟨hr_nar hT, h1 h⟩
  · intro h
    refine f_ill (by omega) hc (fun h => by cases h) (fun _ => ?_)
    rw [KT_thr rfl]
    exact h0 h
def sgt (k : Nat) (c : Int32) : Bool := if k = 0 then c == 60 || c == 61 else if k = 1 then c == 43 || c == 45 else c == 42 || c == 47
theorem sgn_y {k : Nat} (h : sgt k (hr tx n (sk tx n p)) = true) : sgn tx n k p = (if hr tx n (sk tx n p + 1) = 46 ∧ ¬ hr tx n (sk tx n p) = 61 then hr tx n (sk tx n p) + 128 else hr tx n (sk tx n p), if hr tx n (sk tx n p + 1) = 46 ∧ ¬ hr tx n (sk tx n p) = 61 then sk tx n p + 2 else sk tx n p + 1) := by
  unfold sgn
  unfold sgt at h
  rw [if_pos h]
  split <;> rfl
theorem sgn_n {k : Nat} (h : sgt k (hr tx n (sk tx n p)) = false) : sgn tx n k p = (0, sk tx n p) := by
  unfold sgn
  unfold sgt at h
  rw [h]
  rfl
theorem f_sign (hT : TF D tx n) (hp : gI D 141 = i32 p) (hp2 : p < 900) (hd : 3 ≤ d) {k : Nat} (hk : k < 3) (hQ : Q (.inl (some (.int (sgn tx n k p).1))) (toH (sI D 141 (i32 (sgn tx n k p).2)))) : AC d 44 [.ref 25, .int (i32 k)] (toH D) Q := by
  refine AC.pos hd fun d' hd' => ?_
  rw [e44]
  simp only [x44_0, x44_1, x44_4, x44_5, x44_6, x44_9, x44_10, x44_12, x44_15, x44_16, x44_18, x44_21, x44_22, x44_25, x44_26, x44_29, x44_30, x44_31, x44_34, x44_35, x44_37, x44_40, x44_41, x44_43, x44_46, x44_47, x44_50, x44_51, x44_54, x44_55, x44_57, x44_60, x44_61, x44_63, x44_66, x44_67, x44_70, x44_71, x44_72, x44_73, x44_76, x44_77, x44_78, x44_79, x44_80, x44_83, x44_84, x44_85, x44_88, x44_89, x44_92, x44_94, x44_97, x44_98, x44_100, x44_103, x44_104, x44_105, x44_106, x44_107, x44_110, x44_111, x44_112, x44_115, x44_116, x44_119, x44_120, gI_sI, gI_sR, gI_sA, gI_sL, gI_sF, gI_sQ, gI_sG, gI_sN, gR_sI, gR_sR, gR_sA, gR_sL, gR_sF, gR_sQ, gR_sG, gR_sN, gA_sI, gA_sR, gA_sA, gA_sL, gA_sF, gA_sQ, gA_sG, gA_sN, gL_sI, gL_sR, gL_sA, gL_sL, gL_sF, gL_sQ, gL_sG, gL_sN, gF_sI, gF_sR, gF_sA, gF_sL, gF_sF, gF_sQ, gF_sG, gF_sN, gQ_sI, gQ_sR, gQ_sA, gQ_sL, gQ_sF, gQ_sQ, gQ_sG, gQ_sN, gN_sI, gN_sR, gN_sA, gN_sL, gN_sF, gN_sQ, gN_sG, gN_sN, gS_sI, gS_sR, gS_sA, gS_sL, gS_sF, gS_sQ, gS_sG, gS_sN, gO_sI, gO_sR, gO_sA, gO_sL, gO_sF, gO_sQ, gO_sN, isR_ref, isR_null, isR_rf, isR2_ref, isR2_null, isR2_rf, am_k_int, am_k_ref, am_k_null, am_k_rf, am_k_none, am_k_long, am_k_double, rf_some, rf_none, KT_ret, KT_void, XP_ap, true_and, and_true, Nat.reduceAdd, Nat.reduceEqDiff, reduceIte, if_true, if_false, eq_self, true_or, or_true, forall_const, not_true_eq_false, not_false_eq_true]
  refine f_peek hT hp hp2 (by omega) ?_
  have hk2 : k = 0 ∨ k = 1 ∨ k = 2 := by omega
  have tail : ∀ b : Bool, (b = false → Q (.inl (some (.int 0))) (toH (sI D 141 (i32 (sk tx n p))))) → (b = true → Q (.inl (some (.int (if hr tx n (sk tx n p + 1) = 46 ∧ ¬ hr tx n (sk tx n p) = 61 then hr tx n (sk tx n p) + 128 else hr tx n (sk tx n p))))) (toH (sI D 141 (i32 (if hr tx n (sk tx n p + 1) = 46 ∧ ¬ hr tx n (sk tx n p) = 61 then sk tx n p + 2 else sk tx n p + 1))))) → XW 44 d' Q 71 [some (.ref 25), some (.int (i32 k)), some (.int (hr tx n (sk tx n p))), none] [.int (bi b)] (toH (sI D 141 (i32 (sk tx n p)))) := by
    intro b h0 h1
    simp only [x44_0, x44_1, x44_4, x44_5, x44_6, x44_9, x44_10, x44_12, x44_15, x44_16, x44_18, x44_21, x44_22, x44_25, x44_26, x44_29, x44_30, x44_31, x44_34, x44_35, x44_37, x44_40, x44_41, x44_43, x44_46, x44_47, x44_50, x44_51, x44_54, x44_55, x44_57, x44_60, x44_61, x44_63, x44_66, x44_67, x44_70, x44_71, x44_72, x44_73, x44_76, x44_77, x44_78, x44_79, x44_80, x44_83, x44_84, x44_85, x44_88, x44_89, x44_92, x44_94, x44_97, x44_98, x44_100, x44_103, x44_104, x44_105, x44_106, x44_107, x44_110, x44_111, x44_112, x44_115, x44_116, x44_119, x44_120, gI_sI, gI_sR, gI_sA, gI_sL, gI_sF, gI_sQ, gI_sG, gI_sN, gR_sI, gR_sR, gR_sA, gR_sL, gR_sF, gR_sQ, gR_sG, gR_sN, gA_sI, gA_sR, gA_sA, gA_sL, gA_sF, gA_sQ, gA_sG, gA_sN, gL_sI, gL_sR, gL_sA, gL_sL, gL_sF, gL_sQ, gL_sG, gL_sN, gF_sI, gF_sR, gF_sA, gF_sL, gF_sF, gF_sQ, gF_sG, gF_sN, gQ_sI, gQ_sR, gQ_sA, gQ_sL, gQ_sF, gQ_sQ, gQ_sG, gQ_sN, gN_sI, gN_sR, gN_sA, gN_sL, gN_sF, gN_sQ, gN_sG, gN_sN, gS_sI, gS_sR, gS_sA, gS_sL, gS_sF, gS_sQ, gS_sG, gS_sN, gO_sI, gO_sR, gO_sA, gO_sL, gO_sF, gO_sQ, gO_sN, isR_ref, isR_null, isR_rf, isR2_ref, isR2_null, isR2_rf, am_k_int, am_k_ref, am_k_null, am_k_rf, am_k_none, am_k_long, am_k_double, rf_some, rf_none, KT_ret, KT_void, XP_ap, true_and, and_true, Nat.reduceAdd, Nat.reduceEqDiff, reduceIte, if_true, if_false, eq_self, true_or, or_true, forall_const, not_true_eq_false, not_false_eq_true, bi_ne, Bool.not_eq_false]
    refine ⟨fun h => ?_, h0⟩
    have h1 := h1 h
    rw [i32_add1, sI_sI]
    refine f_here (p := sk tx n p + 1) hT rfl (by have := sk_lt (tx := tx) (n := n) (p := p); have := hT.2.1; by_cases p ≤ n; omega; rw [sk_id (by omega)]; omega) (by omega) ?_
    simp only [x44_0, x44_1, x44_4, x44_5, x44_6, x44_9, x44_10, x44_12, x44_15, x44_16, x44_18, x44_21, x44_22, x44_25, x44_26, x44_29, x44_30, x44_31, x44_34, x44_35, x44_37, x44_40, x44_41, x44_43, x44_46, x44_47, x44_50, x44_51, x44_54, x44_55, x44_57, x44_60, x44_61, x44_63, x44_66, x44_67, x44_70, x44_71, x44_72, x44_73, x44_76, x44_77, x44_78, x44_79, x44_80, x44_83, x44_84, x44_85, x44_88, x44_89, x44_92, x44_94, x44_97, x44_98, x44_100, x44_103, x44_104, x44_105, x44_106, x44_107, x44_110, x44_111, x44_112, x44_115, x44_116, x44_119, x44_120, gI_sI, gI_sR, gI_sA, gI_sL, gI_sF, gI_sQ, gI_sG, gI_sN, gR_sI, gR_sR, gR_sA, gR_sL, gR_sF, gR_sQ, gR_sG, gR_sN, gA_sI, gA_sR, gA_sA, gA_sL, gA_sF, gA_sQ, gA_sG, gA_sN, gL_sI, gL_sR, gL_sA, gL_sL, gL_sF, gL_sQ, gL_sG, gL_sN, gF_sI, gF_sR, gF_sA, gF_sL, gF_sF, gF_sQ, gF_sG, gF_sN, gQ_sI, gQ_sR, gQ_sA, gQ_sL, gQ_sF, gQ_sQ, gQ_sG, gQ_sN, gN_sI, gN_sR, gN_sA, gN_sL, gN_sF, gN_sQ, gN_sG, gN_sN, gS_sI, gS_sR, gS_sA, gS_sL, gS_sF, gS_sQ, gS_sG, gS_sN, gO_sI, gO_sR, gO_sA, gO_sL, gO_sF, gO_sQ, gO_sN, isR_ref, isR_null, isR_rf, isR2_ref, isR2_null, isR2_rf, am_k_int, am_k_ref, am_k_null, am_k_rf, am_k_none, am_k_long, am_k_double, rf_some, rf_none, KT_ret, KT_void, XP_ap, true_and, and_true, Nat.reduceAdd, Nat.reduceEqDiff, reduceIte, if_true, if_false, eq_self, true_or, or_true, forall_const, not_true_eq_false, not_false_eq_true]
    refine ⟨fun h2 => ?_, fun h2 => ⟨fun h3 => ?_, fun h3 => ?_⟩⟩
    · rw [if_neg (fun z => h2 z.1), if_neg (fun z => h2 z.1)] at h1; exact h1
    · rw [if_pos ⟨h2, h3⟩, if_pos ⟨h2, h3⟩] at h1
      rw [i32_add1, sI_sI]; exact h1
    · rw [if_neg (fun z => z.2 h3), if_neg (fun z => z.2 h3)] at h1; exact h1
  have t0 := tail false
  have t1 := tail true
  have e1 : bi true = 1 := rfl
  have e0 : bi false = 0 := rfl
  rw [e1] at t1
  rw [e0] at t0
  have u0 : sgt k (hr tx n (sk tx n p)) = false → XW 44 d' Q 71 [some (.ref 25), some (.int (i32 k)), some (.int (hr tx n (sk tx n p))), none] [.int 0] (toH (sI D 141 (i32 (sk tx n p)))) := fun h => t0 (fun _ => by rw [sgn_n h] at hQ; exact hQ) (fun z => by cases z)
  have u1 : sgt k (hr tx n (sk tx n p)) = true → XW 44 d' Q 71 [some (.ref 25), some (.int (i32 k)), some (.int (hr tx n (sk tx n p))), none] [.int 1] (toH (sI D 141 (i32 (sk tx n p)))) := fun h => t1 (fun z => by cases z) (fun _ => by rw [sgn_y h] at hQ; exact hQ)
  clear t0 t1 tail hQ
  simp only [x44_0, x44_1, x44_4, x44_5, x44_6, x44_9, x44_10, x44_12, x44_15, x44_16, x44_18, x44_21, x44_22, x44_25, x44_26, x44_29, x44_30, x44_31, x44_34, x44_35, x44_37, x44_40, x44_41, x44_43, x44_46, x44_47, x44_50, x44_51, x44_54, x44_55, x44_57, x44_60, x44_61, x44_63, x44_66, x44_67, x44_70, x44_72, x44_73, x44_76, x44_77, x44_78, x44_79, x44_80, x44_83, x44_84, x44_85, x44_88, x44_89, x44_92, x44_94, x44_97, x44_98, x44_100, x44_103, x44_104, x44_105, x44_106, x44_107, x44_110, x44_111, x44_112, x44_115, x44_116, x44_119, x44_120, gI_sI, gI_sR, gI_sA, gI_sL, gI_sF, gI_sQ, gI_sG, gI_sN, gR_sI, gR_sR, gR_sA, gR_sL, gR_sF, gR_sQ, gR_sG, gR_sN, gA_sI, gA_sR, gA_sA, gA_sL, gA_sF, gA_sQ, gA_sG, gA_sN, gL_sI, gL_sR, gL_sA, gL_sL, gL_sF, gL_sQ, gL_sG, gL_sN, gF_sI, gF_sR, gF_sA, gF_sL, gF_sF, gF_sQ, gF_sG, gF_sN, gQ_sI, gQ_sR, gQ_sA, gQ_sL, gQ_sF, gQ_sQ, gQ_sG, gQ_sN, gN_sI, gN_sR, gN_sA, gN_sL, gN_sF, gN_sQ, gN_sG, gN_sN, gS_sI, gS_sR, gS_sA, gS_sL, gS_sF, gS_sQ, gS_sG, gS_sN, gO_sI, gO_sR, gO_sA, gO_sL, gO_sF, gO_sQ, gO_sN, isR_ref, isR_null, isR_rf, isR2_ref, isR2_null, isR2_rf, am_k_int, am_k_ref, am_k_null, am_k_rf, am_k_none, am_k_long, am_k_double, rf_some, rf_none, KT_ret, KT_void, XP_ap, true_and, and_true, Nat.reduceAdd, Nat.reduceEqDiff, reduceIte, if_true, if_false, eq_self, true_or, or_true, forall_const, not_true_eq_false, not_false_eq_true]
  rcases hk2 with rfl | rfl | rfl
  · have e : (i32 0 = 0) = True := by decide
    simp only [e, gI_sI, gI_sR, gI_sA, gI_sL, gI_sF, gI_sQ, gI_sG, gI_sN, gR_sI, gR_sR, gR_sA, gR_sL, gR_sF, gR_sQ, gR_sG, gR_sN, gA_sI, gA_sR, gA_sA, gA_sL, gA_sF, gA_sQ, gA_sG, gA_sN, gL_sI, gL_sR, gL_sA, gL_sL, gL_sF, gL_sQ, gL_sG, gL_sN, gF_sI, gF_sR, gF_sA, gF_sL, gF_sF, gF_sQ, gF_sG, gF_sN, gQ_sI, gQ_sR, gQ_sA, gQ_sL, gQ_sF, gQ_sQ, gQ_sG, gQ_sN, gN_sI, gN_sR, gN_sA, gN_sL, gN_sF, gN_sQ, gN_sG, gN_sN, gS_sI, gS_sR, gS_sA, gS_sL, gS_sF, gS_sQ, gS_sG, gS_sN, gO_sI, gO_sR, gO_sA, gO_sL, gO_sF, gO_sQ, gO_sN, isR_ref, isR_null, isR_rf, isR2_ref, isR2_null, isR2_rf, am_k_int, am_k_ref, am_k_null, am_k_rf, am_k_none, am_k_long, am_k_double, rf_some, rf_none, KT_ret, KT_void, XP_ap, true_and, and_true, Nat.reduceAdd, Nat.reduceEqDiff, reduceIte, if_true, if_false, eq_self, true_or, or_true, forall_const, not_true_eq_false, not_false_eq_true, false_imp_iff, true_imp_iff]
    refine ⟨fun h => u1 ?_, fun h => ⟨fun h' => u0 ?_, fun h' => u1 ?_⟩⟩ <;> simp_all [sgt]
  · have e : (i32 1 = 0) = False := by decide
    have e' : (i32 1 = 1) = True := by decide
    simp only [e, e', gI_sI, gI_sR, gI_sA, gI_sL, gI_sF, gI_sQ, gI_sG, gI_sN, gR_sI, gR_sR, gR_sA, gR_sL, gR_sF, gR_sQ, gR_sG, gR_sN, gA_sI, gA_sR, gA_sA, gA_sL, gA_sF, gA_sQ, gA_sG, gA_sN, gL_sI, gL_sR, gL_sA, gL_sL, gL_sF, gL_sQ, gL_sG, gL_sN, gF_sI, gF_sR, gF_sA, gF_sL, gF_sF, gF_sQ, gF_sG, gF_sN, gQ_sI, gQ_sR, gQ_sA, gQ_sL, gQ_sF, gQ_sQ, gQ_sG, gQ_sN, gN_sI, gN_sR, gN_sA, gN_sL, gN_sF, gN_sQ, gN_sG, gN_sN, gS_sI, gS_sR, gS_sA, gS_sL, gS_sF, gS_sQ, gS_sG, gS_sN, gO_sI, gO_sR, gO_sA, gO_sL, gO_sF, gO_sQ, gO_sN, isR_ref, isR_null, isR_rf, isR2_ref, isR2_null, isR2_rf, am_k_int, am_k_ref, am_k_null, am_k_rf, am_k_none, am_k_long, am_k_double, rf_some, rf_none, KT_ret, KT_void, XP_ap, true_and, and_true, Nat.reduceAdd, Nat.reduceEqDiff, reduceIte, if_true, if_false, eq_self, true_or, or_true, forall_const, not_true_eq_false, not_false_eq_true, false_imp_iff, true_imp_iff]
    refine ⟨fun h => u1 ?_, fun h => ⟨fun h' => u0 ?_, fun h' => u1 ?_⟩⟩ <;> simp_all [sgt]
  · have e : (i32 2 = 0) = False := by decide
    have e' : (i32 2 = 1) = False := by decide
    simp only [e, e', gI_sI, gI_sR, gI_sA, gI_sL, gI_sF, gI_sQ, gI_sG, gI_sN, gR_sI, gR_sR, gR_sA, gR_sL, gR_sF, gR_sQ, gR_sG, gR_sN, gA_sI, gA_sR, gA_sA, gA_sL, gA_sF, gA_sQ, gA_sG, gA_sN, gL_sI, gL_sR, gL_sA, gL_sL, gL_sF, gL_sQ, gL_sG, gL_sN, gF_sI, gF_sR, gF_sA, gF_sL, gF_sF, gF_sQ, gF_sG, gF_sN, gQ_sI, gQ_sR, gQ_sA, gQ_sL, gQ_sF, gQ_sQ, gQ_sG, gQ_sN, gN_sI, gN_sR, gN_sA, gN_sL, gN_sF, gN_sQ, gN_sG, gN_sN, gS_sI, gS_sR, gS_sA, gS_sL, gS_sF, gS_sQ, gS_sG, gS_sN, gO_sI, gO_sR, gO_sA, gO_sL, gO_sF, gO_sQ, gO_sN, isR_ref, isR_null, isR_rf, isR2_ref, isR2_null, isR2_rf, am_k_int, am_k_ref, am_k_null, am_k_rf, am_k_none, am_k_long, am_k_double, rf_some, rf_none, KT_ret, KT_void, XP_ap, true_and, and_true, Nat.reduceAdd, Nat.reduceEqDiff, reduceIte, if_true, if_false, eq_self, true_or, or_true, forall_const, not_true_eq_false, not_false_eq_true, false_imp_iff, true_imp_iff]
    refine ⟨fun h => u1 ?_, fun h => ⟨fun h' => u0 ?_, fun h' => u1 ?_⟩⟩ <;> simp_all [sgt]
theorem hr_in (h : p < n) : hr tx n p = tx p := if_pos h
theorem hr_out (h : ¬ p < n) : hr tx n p = 0 := if_neg h
theorem dg_lt (h : dg (hr tx n p) = true) : p < n := by
  refine Decidable.byContradiction fun z => ?_
  rw [hr_out z] at h
  exact absurd h (by decide)
theorem lt_lt (h : lt (hr tx n p) = true) : p < n := by
  refine Decidable.byContradiction fun z => ?_
  rw [hr_out z] at h
  exact absurd h (by decide)
theorem bg_lt (h : bg (hr tx n p) = true) : p < n := by
  refine Decidable.byContradiction fun z => ?_
  rw [hr_out z] at h
  exact absurd h (by decide)
theorem ch_lt (h : hr tx n p = c) (hc : ¬ c = 0) : p < n := by
  refine Decidable.byContradiction fun z => ?_
  rw [hr_out z] at h
  exact hc h.symm
theorem f_digits (hT : TF D tx n) (hp : gI D 141 = i32 p) (hp2 : p ≤ n) (hd : 2 ≤ d) (hc : capok D 6) {k : Nat} (hk : k < 9) (h1 : ∀ v p', dgs tx n k p = some (v, p') → p < p' → p' ≤ n → Q (.inl (some (.int v))) (toH (sI D 141 (i32 p')))) (h0 : ∀ p', dgs tx n k p = none → Q (.inr (82 + gN D, 23)) (toH (sN (sI D 141 (i32 p')) (.inr (23, [])) 6))) : AC d 41 [.ref 25, .int (i32 k)] (toH D) Q := by
  refine AC.pos hd fun d' hd' => ?_
  rw [e41]
  have key : ∀ (f p j : Nat) (v : Int32), p ≤ n → j + f = k + 2 → 1 ≤ f → (∀ v' j' p', dgF tx n k f p v j = (v', j', p') → p + j' = p' + j → p' ≤ n → ¬ (j' = 0 ∨ k < j') → Q (.inl (some (.int v'))) (toH (sI D 141 (i32 p')))) → (∀ v' j' p', dgF tx n k f p v j = (v', j', p') → (j' = 0 ∨ k < j') → Q (.inr (82 + gN D, 23)) (toH (sN (sI D 141 (i32 p')) (.inr (23, [])) 6))) → XW 41 d' Q 4 [some (.ref 25), some (.int (i32 k)), some (.int v), some (.int (i32 j))] [] (toH (sI D 141 (i32 p))) := by
    have hn := hT.2.1
    intro f
    induction f with
    | zero => intro p j v _ _ h; omega
    | succ f ih =>
      intro p j v hp hj _ h1 h0
      rw [x41_4, x41_5]
      refine f_here (p := p) hT rfl (by omega) (by omega) ?_
      simp only [x41_0, x41_1, x41_2, x41_3, x41_5, x41_8, x41_11, x41_14, x41_15, x41_16, x41_19, x41_21, x41_22, x41_23, x41_24, x41_27, x41_28, x41_29, x41_32, x41_33, x41_34, x41_35, x41_38, x41_39, x41_40, x41_42, x41_43, x41_44, x41_47, x41_50, x41_51, x41_54, x41_55, x41_56, x41_59, x41_60, x41_63, x41_64, x41_67, x41_68, gI_sI, gI_sR, gI_sA, gI_sL, gI_sF, gI_sQ, gI_sG, gI_sN, gR_sI, gR_sR, gR_sA, gR_sL, gR_sF, gR_sQ, gR_sG, gR_sN, gA_sI, gA_sR, gA_sA, gA_sL, gA_sF, gA_sQ, gA_sG, gA_sN, gL_sI, gL_sR, gL_sA, gL_sL, gL_sF, gL_sQ, gL_sG, gL_sN, gF_sI, gF_sR, gF_sA, gF_sL, gF_sF, gF_sQ, gF_sG, gF_sN, gQ_sI, gQ_sR, gQ_sA, gQ_sL, gQ_sF, gQ_sQ, gQ_sG, gQ_sN, gN_sI, gN_sR, gN_sA, gN_sL, gN_sF, gN_sQ, gN_sG, gN_sN, gS_sI, gS_sR, gS_sA, gS_sL, gS_sF, gS_sQ, gS_sG, gS_sN, gO_sI, gO_sR, gO_sA, gO_sL, gO_sF, gO_sQ, gO_sN, isR_ref, isR_null, isR_rf, isR2_ref, isR2_null, isR2_rf, am_k_int, am_k_ref, am_k_null, am_k_rf, am_k_none, am_k_long, am_k_double, rf_some, rf_none, KT_ret, KT_void, XP_ap, true_and, and_true, Nat.reduceAdd, Nat.reduceEqDiff, reduceIte, if_true, if_false, eq_self, true_or, or_true, forall_const, not_true_eq_false, not_false_eq_true]
      refine f_digit (by omega) ?_
      have stop : ¬ (dg (hr tx n p) = true ∧ j ≤ k) → XW 41 d' Q 50 [some (.ref 25), some (.int (i32 k)), some (.int v), some (.int (i32 j))] [] (toH (sI D 141 (i32 p))) := by
        intro hs
        have e : dgF tx n k (f + 1) p v j = (v, j, p) := by unfold dgF; rw [if_neg hs]
        simp only [x41_0, x41_1, x41_2, x41_3, x41_5, x41_8, x41_11, x41_14, x41_15, x41_16, x41_19, x41_21, x41_22, x41_23, x41_24, x41_27, x41_28, x41_29, x41_32, x41_33, x41_34, x41_35, x41_38, x41_39, x41_40, x41_42, x41_43, x41_44, x41_47, x41_50, x41_51, x41_54, x41_55, x41_56, x41_59, x41_60, x41_63, x41_64, x41_67, x41_68, gI_sI, gI_sR, gI_sA, gI_sL, gI_sF, gI_sQ, gI_sG, gI_sN, gR_sI, gR_sR, gR_sA, gR_sL, gR_sF, gR_sQ, gR_sG, gR_sN, gA_sI, gA_sR, gA_sA, gA_sL, gA_sF, gA_sQ, gA_sG, gA_sN, gL_sI, gL_sR, gL_sA, gL_sL, gL_sF, gL_sQ, gL_sG, gL_sN, gF_sI, gF_sR, gF_sA, gF_sL, gF_sF, gF_sQ, gF_sG, gF_sN, gQ_sI, gQ_sR, gQ_sA, gQ_sL, gQ_sF, gQ_sQ, gQ_sG, gQ_sN, gN_sI, gN_sR, gN_sA, gN_sL, gN_sF, gN_sQ, gN_sG, gN_sN, gS_sI, gS_sR, gS_sA, gS_sL, gS_sF, gS_sQ, gS_sG, gS_sN, gO_sI, gO_sR, gO_sA, gO_sL, gO_sF, gO_sQ, gO_sN, isR_ref, isR_null, isR_rf, isR2_ref, isR2_null, isR2_rf, am_k_int, am_k_ref, am_k_null, am_k_rf, am_k_none, am_k_long, am_k_double, rf_some, rf_none, KT_ret, KT_void, XP_ap, true_and, and_true, Nat.reduceAdd, Nat.reduceEqDiff, reduceIte, if_true, if_false, eq_self, true_or, or_true, forall_const, not_true_eq_false, not_false_eq_true]
        have e0 : (i32 j = 0) ↔ j = 0 := i32_eq (a := j) (b := 0) (by omega) (by omega)
        rw [e0, i32_lt (by omega) (by omega)]
        refine ⟨fun hj0 => ?_, fun hj0 => ⟨fun hk0 => ?_, fun hk0 => ?_⟩⟩
        · refine f_ill (by omega) hc (fun h => by cases h) (fun _ => ?_)
          rw [KT_thr rfl]
          exact h0 _ _ _ e (.inl hj0)
        · refine f_ill (by omega) hc (fun _ => ?_) (fun h => absurd rfl h)
          simp only [x41_0, x41_1, x41_2, x41_3, x41_5, x41_8, x41_11, x41_14, x41_15, x41_16, x41_19, x41_21, x41_22, x41_23, x41_24, x41_27, x41_28, x41_29, x41_32, x41_33, x41_34, x41_35, x41_38, x41_39, x41_40, x41_42, x41_43, x41_44, x41_47, x41_50, x41_51, x41_54, x41_55, x41_56, x41_59, x41_60, x41_63, x41_64, x41_67, x41_68, gI_sI, gI_sR, gI_sA, gI_sL, gI_sF, gI_sQ, gI_sG, gI_sN, gR_sI, gR_sR, gR_sA, gR_sL, gR_sF, gR_sQ, gR_sG, gR_sN, gA_sI, gA_sR, gA_sA, gA_sL, gA_sF, gA_sQ, gA_sG, gA_sN, gL_sI, gL_sR, gL_sA, gL_sL, gL_sF, gL_sQ, gL_sG, gL_sN, gF_sI, gF_sR, gF_sA, gF_sL, gF_sF, gF_sQ, gF_sG, gF_sN, gQ_sI, gQ_sR, gQ_sA, gQ_sL, gQ_sF, gQ_sQ, gQ_sG, gQ_sN, gN_sI, gN_sR, gN_sA, gN_sL, gN_sF, gN_sQ, gN_sG, gN_sN, gS_sI, gS_sR, gS_sA, gS_sL, gS_sF, gS_sQ, gS_sG, gS_sN, gO_sI, gO_sR, gO_sA, gO_sL, gO_sF, gO_sQ, gO_sN, isR_ref, isR_null, isR_rf, isR2_ref, isR2_null, isR2_rf, am_k_int, am_k_ref, am_k_null, am_k_rf, am_k_none, am_k_long, am_k_double, rf_some, rf_none, KT_ret, KT_void, XP_ap, true_and, and_true, Nat.reduceAdd, Nat.reduceEqDiff, reduceIte, if_true, if_false, eq_self, true_or, or_true, forall_const, not_true_eq_false, not_false_eq_true]
          exact h1 _ _ _ e (by omega) hp (by omega)
        · refine f_ill (by omega) hc (fun h => by cases h) (fun _ => ?_)
          rw [KT_thr rfl]
          exact h0 _ _ _ e (.inr (by omega))
      simp only [x41_0, x41_1, x41_2, x41_3, x41_5, x41_8, x41_11, x41_14, x41_15, x41_16, x41_19, x41_21, x41_22, x41_23, x41_24, x41_27, x41_28, x41_29, x41_32, x41_33, x41_34, x41_35, x41_38, x41_39, x41_40, x41_42, x41_43, x41_44, x41_47, x41_51, x41_54, x41_55, x41_56, x41_59, x41_60, x41_63, x41_64, x41_67, x41_68, gI_sI, gI_sR, gI_sA, gI_sL, gI_sF, gI_sQ, gI_sG, gI_sN, gR_sI, gR_sR, gR_sA, gR_sL, gR_sF, gR_sQ, gR_sG, gR_sN, gA_sI, gA_sR, gA_sA, gA_sL, gA_sF, gA_sQ, gA_sG, gA_sN, gL_sI, gL_sR, gL_sA, gL_sL, gL_sF, gL_sQ, gL_sG, gL_sN, gF_sI, gF_sR, gF_sA, gF_sL, gF_sF, gF_sQ, gF_sG, gF_sN, gQ_sI, gQ_sR, gQ_sA, gQ_sL, gQ_sF, gQ_sQ, gQ_sG, gQ_sN, gN_sI, gN_sR, gN_sA, gN_sL, gN_sF, gN_sQ, gN_sG, gN_sN, gS_sI, gS_sR, gS_sA, gS_sL, gS_sF, gS_sQ, gS_sG, gS_sN, gO_sI, gO_sR, gO_sA, gO_sL, gO_sF, gO_sQ, gO_sN, isR_ref, isR_null, isR_rf, isR2_ref, isR2_null, isR2_rf, am_k_int, am_k_ref, am_k_null, am_k_rf, am_k_none, am_k_long, am_k_double, rf_some, rf_none, KT_ret, KT_void, XP_ap, true_and, and_true, Nat.reduceAdd, Nat.reduceEqDiff, reduceIte, if_true, if_false, eq_self, true_or, or_true, forall_const, not_true_eq_false, not_false_eq_true, bi_ne, Bool.not_eq_false]
      refine ⟨fun h => stop (by rw [h]; exact fun z => absurd z.1 (by decide)), fun h => ⟨fun hk0 => stop ?_, fun hk0 => ?_⟩⟩
      · rw [i32_lt (by omega) (by omega)] at hk0; omega
      · rw [i32_lt (by omega) (by omega)] at hk0
        have hpn := dg_lt h
        rw [i32_in (by omega), i32_nat (by omega), i32_add1, i32_add1, sI_sI, hT.2.2.1 p (by omega)]
        refine ⟨by omega, ih (p + 1) (j + 1) _ hpn (by omega) (by omega) ?_ ?_⟩
        all_goals
          have e : dgF tx n k (f + 1) p v j = dgF tx n k f (p + 1) (10 * v + tx p - 48) (j + 1) := by
            conv => lhs; unfold dgF
            rw [if_pos ⟨h, by omega⟩, hr_in hpn]
          rw [← e]
        · intro v' j' p' a1 a2 a3 a4; exact h1 v' j' p' a1 (by omega) a3 a4
        · intro v' j' p' a1 a2; exact h0 v' j' p' a1 a2
  simp only [x41_0, x41_1, x41_2, x41_3, x41_5, x41_8, x41_11, x41_14, x41_15, x41_16, x41_19, x41_21, x41_22, x41_23, x41_24, x41_27, x41_28, x41_29, x41_32, x41_33, x41_34, x41_35, x41_38, x41_39, x41_40, x41_42, x41_43, x41_44, x41_47, x41_51, x41_54, x41_55, x41_56, x41_59, x41_60, x41_63, x41_64, x41_67, x41_68, gI_sI, gI_sR, gI_sA, gI_sL, gI_sF, gI_sQ, gI_sG, gI_sN, gR_sI, gR_sR, gR_sA, gR_sL, gR_sF, gR_sQ, gR_sG, gR_sN, gA_sI, gA_sR, gA_sA, gA_sL, gA_sF, gA_sQ, gA_sG, gA_sN, gL_sI, gL_sR, gL_sA, gL_sL, gL_sF, gL_sQ, gL_sG, gL_sN, gF_sI, gF_sR, gF_sA, gF_sL, gF_sF, gF_sQ, gF_sG, gF_sN, gQ_sI, gQ_sR, gQ_sA, gQ_sL, gQ_sF, gQ_sQ, gQ_sG, gQ_sN, gN_sI, gN_sR, gN_sA, gN_sL, gN_sF, gN_sQ, gN_sG, gN_sN, gS_sI, gS_sR, gS_sA, gS_sL, gS_sF, gS_sQ, gS_sG, gS_sN, gO_sI, gO_sR, gO_sA, gO_sL, gO_sF, gO_sQ, gO_sN, isR_ref, isR_null, isR_rf, isR2_ref, isR2_null, isR2_rf, am_k_int, am_k_ref, am_k_null, am_k_rf, am_k_none, am_k_long, am_k_double, rf_some, rf_none, KT_ret, KT_void, XP_ap, true_and, and_true, Nat.reduceAdd, Nat.reduceEqDiff, reduceIte, if_true, if_false, eq_self, true_or, or_true, forall_const, not_true_eq_false, not_false_eq_true]
  rw [← sI_same hp]
  refine key (k + 2) p 0 0 hp2 (by omega) (by omega) ?_ ?_
  · intro v' j' p' e a2 a3 a4
    refine h1 v' p' ?_ (by omega) a3
    unfold dgs
    rw [e]
    dsimp only
    rw [if_neg a4]
  · intro v' j' p' e a2
    refine h0 p' ?_
    unfold dgs
    rw [e]
    dsimp only
    rw [if_pos a2]
end FO
