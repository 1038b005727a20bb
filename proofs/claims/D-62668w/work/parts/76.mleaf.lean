/-! FunDeskModel, reading: the leaves, 4 -/
set_option maxRecDepth 100000
section MO
variable {d : Nat} {D : sS} {Q : am_O → am_H → Prop} {tx : Nat → Int32} {n p : Nat} {c b : Int32} {h : am_H}
theorem m_after {k : Nat} {s x : Int32} (hk : gI D 533 = i32 (k + 1)) (hk2 : k + 1 < 180) (hd : 2 ≤ d) (hQ : Q (.inl none) (toH (sI (sA (sA (sA (sA (sA D 530 k s) 529 (k + 1) x) 530 (k + 1) 0) 531 (k + 1) 0) 532 (k + 1) 0) 533 (i32 (k + 1 + 1))))) : AC d 88 [.ref 40, .int s, .int x] (toH D) Q := by
  refine AC.pos hd fun d' hd' => ?_
  rw [e88]
  simp only [x88_0, x88_1, x88_4, x88_5, x88_8, x88_9, x88_10, x88_11, x88_12, x88_13, x88_14, x88_17, gI_sI, gI_sR, gI_sA, gI_sL, gI_sF, gI_sQ, gI_sG, gI_sN, gR_sI, gR_sR, gR_sA, gR_sL, gR_sF, gR_sQ, gR_sG, gR_sN, gA_sI, gA_sR, gA_sA, gA_sL, gA_sF, gA_sQ, gA_sG, gA_sN, gL_sI, gL_sR, gL_sA, gL_sL, gL_sF, gL_sQ, gL_sG, gL_sN, gF_sI, gF_sR, gF_sA, gF_sL, gF_sF, gF_sQ, gF_sG, gF_sN, gQ_sI, gQ_sR, gQ_sA, gQ_sL, gQ_sF, gQ_sQ, gQ_sG, gQ_sN, gN_sI, gN_sR, gN_sA, gN_sL, gN_sF, gN_sQ, gN_sG, gN_sN, gS_sI, gS_sR, gS_sA, gS_sL, gS_sF, gS_sQ, gS_sG, gS_sN, gO_sI, gO_sR, gO_sA, gO_sL, gO_sF, gO_sQ, gO_sN, isR_ref, isR_null, isR_rf, isR2_ref, isR2_null, isR2_rf, am_k_int, am_k_ref, am_k_null, am_k_rf, am_k_none, am_k_long, am_k_double, rf_some, rf_none, KT_ret, KT_void, XP_ap, true_and, and_true, Nat.reduceAdd, Nat.reduceEqDiff, reduceIte, if_true, if_false, eq_self, true_or, or_true, forall_const, not_true_eq_false, not_false_eq_true, hk]
  rw [i32_sub1 (by omega) (by omega), i32_in (by omega), i32_nat (by omega)]
  refine ⟨by omega, m_begin (k := k + 1) hk hk2 hd' ?_⟩
  simp only [x88_0, x88_1, x88_4, x88_5, x88_8, x88_9, x88_10, x88_11, x88_12, x88_13, x88_14, x88_17, gI_sI, gI_sR, gI_sA, gI_sL, gI_sF, gI_sQ, gI_sG, gI_sN, gR_sI, gR_sR, gR_sA, gR_sL, gR_sF, gR_sQ, gR_sG, gR_sN, gA_sI, gA_sR, gA_sA, gA_sL, gA_sF, gA_sQ, gA_sG, gA_sN, gL_sI, gL_sR, gL_sA, gL_sL, gL_sF, gL_sQ, gL_sG, gL_sN, gF_sI, gF_sR, gF_sA, gF_sL, gF_sF, gF_sQ, gF_sG, gF_sN, gQ_sI, gQ_sR, gQ_sA, gQ_sL, gQ_sF, gQ_sQ, gQ_sG, gQ_sN, gN_sI, gN_sR, gN_sA, gN_sL, gN_sF, gN_sQ, gN_sG, gN_sN, gS_sI, gS_sR, gS_sA, gS_sL, gS_sF, gS_sQ, gS_sG, gS_sN, gO_sI, gO_sR, gO_sA, gO_sL, gO_sF, gO_sQ, gO_sN, isR_ref, isR_null, isR_rf, isR2_ref, isR2_null, isR2_rf, am_k_int, am_k_ref, am_k_null, am_k_rf, am_k_none, am_k_long, am_k_double, rf_some, rf_none, KT_ret, KT_void, XP_ap, true_and, and_true, Nat.reduceAdd, Nat.reduceEqDiff, reduceIte, if_true, if_false, eq_self, true_or, or_true, forall_const, not_true_eq_false, not_false_eq_true]
  exact hQ
theorem m_deeper {k : Nat} (hk : gI D 534 = i32 k) (hk2 : k < 100) (hb : gI D 536 = 0) (hd : 1 ≤ d) (hQ : Q (.inl none) (toH (sI (sI D 534 (i32 (k + 1))) 536 (if 16 < k + 1 then 1 else 0)))) : AC d 85 [.ref 40] (toH D) Q := by
  refine AC.pos hd fun d' hd' => ?_
  rw [e85]
  simp only [x85_0, x85_1, x85_2, x85_5, x85_6, x85_7, x85_10, x85_11, x85_12, x85_15, x85_18, x85_19, x85_22, x85_24, x85_27, x85_28, x85_31, x85_32, x85_35, gI_sI, gI_sR, gI_sA, gI_sL, gI_sF, gI_sQ, gI_sG, gI_sN, gR_sI, gR_sR, gR_sA, gR_sL, gR_sF, gR_sQ, gR_sG, gR_sN, gA_sI, gA_sR, gA_sA, gA_sL, gA_sF, gA_sQ, gA_sG, gA_sN, gL_sI, gL_sR, gL_sA, gL_sL, gL_sF, gL_sQ, gL_sG, gL_sN, gF_sI, gF_sR, gF_sA, gF_sL, gF_sF, gF_sQ, gF_sG, gF_sN, gQ_sI, gQ_sR, gQ_sA, gQ_sL, gQ_sF, gQ_sQ, gQ_sG, gQ_sN, gN_sI, gN_sR, gN_sA, gN_sL, gN_sF, gN_sQ, gN_sG, gN_sN, gS_sI, gS_sR, gS_sA, gS_sL, gS_sF, gS_sQ, gS_sG, gS_sN, gO_sI, gO_sR, gO_sA, gO_sL, gO_sF, gO_sQ, gO_sN, isR_ref, isR_null, isR_rf, isR2_ref, isR2_null, isR2_rf, am_k_int, am_k_ref, am_k_null, am_k_rf, am_k_none, am_k_long, am_k_double, rf_some, rf_none, KT_ret, KT_void, XP_ap, true_and, and_true, Nat.reduceAdd, Nat.reduceEqDiff, reduceIte, if_true, if_false, eq_self, true_or, or_true, forall_const, not_true_eq_false, not_false_eq_true, hk, hb]
  have e : ((16 : Int32) < i32 (k + 1)) ↔ 16 < k + 1 := i32_lt (a := 16) (b := k + 1) (by omega) (by omega)
  rw [i32_add1, e]
  refine ⟨fun z => z.elim, fun z => ?_, fun z => ?_⟩
  · rw [if_neg z] at hQ; exact hQ
  · rw [if_pos z] at hQ; exact hQ
theorem m_endsDeep {k j : Nat} (hk : gI D 534 = i32 (k + 1)) (hk2 : k < 100) (hj : gI D 533 = i32 (j + 1)) (hj2 : j < 200) (hd : 1 ≤ d) (hQ : Q (.inl none) (toH (sI (sI D 534 (i32 k)) 533 (i32 j)))) : AC d 97 [.ref 40] (toH D) Q := by
  refine AC.pos hd fun d' hd' => ?_
  rw [e97]
  simp only [x97_0, x97_1, x97_2, x97_5, x97_6, x97_7, x97_10, x97_11, x97_12, x97_15, x97_16, x97_17, x97_20, gI_sI, gI_sR, gI_sA, gI_sL, gI_sF, gI_sQ, gI_sG, gI_sN, gR_sI, gR_sR, gR_sA, gR_sL, gR_sF, gR_sQ, gR_sG, gR_sN, gA_sI, gA_sR, gA_sA, gA_sL, gA_sF, gA_sQ, gA_sG, gA_sN, gL_sI, gL_sR, gL_sA, gL_sL, gL_sF, gL_sQ, gL_sG, gL_sN, gF_sI, gF_sR, gF_sA, gF_sL, gF_sF, gF_sQ, gF_sG, gF_sN, gQ_sI, gQ_sR, gQ_sA, gQ_sL, gQ_sF, gQ_sQ, gQ_sG, gQ_sN, gN_sI, gN_sR, gN_sA, gN_sL, gN_sF, gN_sQ, gN_sG, gN_sN, gS_sI, gS_sR, gS_sA, gS_sL, gS_sF, gS_sQ, gS_sG, gS_sN, gO_sI, gO_sR, gO_sA, gO_sL, gO_sF, gO_sQ, gO_sN, isR_ref, isR_null, isR_rf, isR2_ref, isR2_null, isR2_rf, am_k_int, am_k_ref, am_k_null, am_k_rf, am_k_none, am_k_long, am_k_double, rf_some, rf_none, KT_ret, KT_void, XP_ap, true_and, and_true, Nat.reduceAdd, Nat.reduceEqDiff, reduceIte, if_true, if_false, eq_self, true_or, or_true, forall_const, not_true_eq_false, not_false_eq_true, hk, hj]
  rw [i32_sub1 (by omega) (by omega), i32_sub1 (by omega) (by omega)]
  exact hQ
end MO
