/-! FunDesk: generic; new types -/
set_option maxRecDepth 100000
section TGG
variable {d : Nat} {D D' D'' : sS} {Q : am_O → am_H → Prop} {a b c l srt N v x y k : Nat} {G : tG} {tm tm' : Nat → tE} {ρ : Nat → Nat} {one two cp r t : Option Nat} {lv st : Int32} {L L' L'' : Nat → Int32} {V : Nat → tE}
/-- whether a variable that stands for anything stands in a type -/
theorem f_gnc : ∀ (w a d : Nat) (Q : am_O → am_H → Prop), TH D G tm ρ → LV D L → isT D a → ty_w (tm a) ≤ w → w + 2 ≤ d → ((∃ u, ty_h u (tm a) ∧ L u = 1000) → Q (.inl (some (.int 1))) (toH D)) → ((∀ u, ty_h u (tm a) → ¬ L u = 1000) → Q (.inl (some (.int 0))) (toH D)) → AC d 62 [.ref a] (toH D) Q := by
  intro w
  induction w with
  | zero => intro a d Q _ _ _ hw; have := ty_w1 (t := tm a); omega
  | succ w ih =>
    intro a d Q hH hL ha hw hd h1 h0
    refine AC.pos hd fun d' hd' => ?_
    rw [e62 rfl]
    simp only [x62_0, x62_1, x62_4, x62_5, x62_6, x62_9, x62_12, x62_15, x62_16, x62_19, x62_22, x62_25, x62_26, x62_29, x62_30, x62_31, x62_32, x62_35, x62_38, x62_41, x62_42, x62_45, x62_48, x62_51, x62_52, x62_55, x62_58, x62_61, x62_62, x62_65, x62_68, x62_71, x62_72, x62_75, x62_78, x62_81, x62_82, x62_85, x62_86, gI_sI, gI_sR, gI_sA, gI_sL, gI_sF, gI_sQ, gI_sG, gI_sN, gR_sI, gR_sR, gR_sA, gR_sL, gR_sF, gR_sQ, gR_sG, gR_sN, gA_sI, gA_sR, gA_sA, gA_sL, gA_sF, gA_sQ, gA_sG, gA_sN, gL_sI, gL_sR, gL_sA, gL_sL, gL_sF, gL_sQ, gL_sG, gL_sN, gF_sI, gF_sR, gF_sA, gF_sL, gF_sF, gF_sQ, gF_sG, gF_sN, gQ_sI, gQ_sR, gQ_sA, gQ_sL, gQ_sF, gQ_sQ, gQ_sG, gQ_sN, gN_sI, gN_sR, gN_sA, gN_sL, gN_sF, gN_sQ, gN_sG, gN_sN, gS_sI, gS_sR, gS_sA, gS_sL, gS_sF, gS_sQ, gS_sG, gS_sN, gO_sI, gO_sR, gO_sA, gO_sL, gO_sF, gO_sQ, gO_sN, isR_ref, isR_null, isR_rf, isR2_ref, isR2_null, isR2_rf, am_k_int, am_k_ref, am_k_null, am_k_rf, am_k_none, am_k_long, am_k_double, rf_some, rf_none, KT_ret, KT_void, XP_ap, true_and, and_true, Nat.reduceAdd, Nat.reduceEqDiff, reduceIte, if_true, if_false, eq_self, true_or, or_true, forall_const, not_true_eq_false, not_false_eq_true]
    refine ⟨isT.co ha, f_real hH ha (by omega) fun r srt one two cp lv st ht hr hRL => ?_⟩
    rw [← hr] at h1 h0 hw
    have hf0 : ∀ K, fO D r 2 0 K ↔ K (.ref srt) := fun K => fO_of ht rfl rfl
    have hf1 : ∀ K, fO D r 2 1 K ↔ K (va_rf one) := fun K => fO_of ht rfl rfl
    have hf2 : ∀ K, fO D r 2 2 K ↔ K (va_rf two) := fun K => fO_of ht rfl rfl
    have hf4 : ∀ K, fO D r 2 4 K ↔ K (.int lv) := fun K => fO_of ht rfl rfl
    have hrL : lv = L r := hL _ _ _ _ _ _ _ ht
    have two1 : ∀ (e : tE), e = .var 0 ∨ e = .var 1 ∨ e = .var 2 → ∀ u, ¬ ty_h u e := by
      rintro e (rfl | rfl | rfl) u z
      · have z : 0 = u + 3 := z; omega
      · have z : 1 = u + 3 := z; omega
      · have z : 2 = u + 3 := z; omega
    have base : (∀ u, ¬ ty_h u (tm r)) → Q (.inl (some (.int 0))) (toH D) := fun hn => h0 fun u hu => absurd hu (hn u)
    rcases hRL with ⟨rfl, e0, e1⟩ | ⟨rfl, e1⟩ | ⟨rfl, e1⟩ | ⟨rfl, e1⟩ | ⟨rfl, b, e0, e2, e3⟩ | ⟨rfl, b, c, e0, e0', e3, e4, e5⟩
    · simp only [x62_0, x62_1, x62_4, x62_5, x62_6, x62_9, x62_12, x62_15, x62_16, x62_19, x62_22, x62_25, x62_26, x62_29, x62_30, x62_31, x62_32, x62_35, x62_38, x62_41, x62_42, x62_45, x62_48, x62_51, x62_52, x62_55, x62_58, x62_61, x62_62, x62_65, x62_68, x62_71, x62_72, x62_75, x62_78, x62_81, x62_82, x62_85, x62_86, gI_sI, gI_sR, gI_sA, gI_sL, gI_sF, gI_sQ, gI_sG, gI_sN, gR_sI, gR_sR, gR_sA, gR_sL, gR_sF, gR_sQ, gR_sG, gR_sN, gA_sI, gA_sR, gA_sA, gA_sL, gA_sF, gA_sQ, gA_sG, gA_sN, gL_sI, gL_sR, gL_sA, gL_sL, gL_sF, gL_sQ, gL_sG, gL_sN, gF_sI, gF_sR, gF_sA, gF_sL, gF_sF, gF_sQ, gF_sG, gF_sN, gQ_sI, gQ_sR, gQ_sA, gQ_sL, gQ_sF, gQ_sQ, gQ_sG, gQ_sN, gN_sI, gN_sR, gN_sA, gN_sL, gN_sF, gN_sQ, gN_sG, gN_sN, gS_sI, gS_sR, gS_sA, gS_sL, gS_sF, gS_sQ, gS_sG, gS_sN, gO_sI, gO_sR, gO_sA, gO_sL, gO_sF, gO_sQ, gO_sN, isR_ref, isR_null, isR_rf, isR2_ref, isR2_null, isR2_rf, am_k_int, am_k_ref, am_k_null, am_k_rf, am_k_none, am_k_long, am_k_double, rf_some, rf_none, KT_ret, KT_void, XP_ap, true_and, and_true, Nat.reduceAdd, Nat.reduceEqDiff, reduceIte, if_true, if_false, eq_self, true_or, or_true, forall_const, not_true_eq_false, not_false_eq_true, hf0, hf4, Value.ref.injEq, false_imp_iff, true_imp_iff, not_false_eq_true]
      refine ⟨fun z => h0 fun u hu => ?_, fun z => h1 ⟨r, by rw [e1]; rfl, by rw [← hrL]; exact z⟩⟩
      rw [e1] at hu
      rw [← Nat.add_right_cancel (show r + 3 = u + 3 from hu), ← hrL]
      exact z
    · simp only [x62_0, x62_1, x62_4, x62_5, x62_6, x62_9, x62_12, x62_15, x62_16, x62_19, x62_22, x62_25, x62_26, x62_29, x62_30, x62_31, x62_32, x62_35, x62_38, x62_41, x62_42, x62_45, x62_48, x62_51, x62_52, x62_55, x62_58, x62_61, x62_62, x62_65, x62_68, x62_71, x62_72, x62_75, x62_78, x62_81, x62_82, x62_85, x62_86, gI_sI, gI_sR, gI_sA, gI_sL, gI_sF, gI_sQ, gI_sG, gI_sN, gR_sI, gR_sR, gR_sA, gR_sL, gR_sF, gR_sQ, gR_sG, gR_sN, gA_sI, gA_sR, gA_sA, gA_sL, gA_sF, gA_sQ, gA_sG, gA_sN, gL_sI, gL_sR, gL_sA, gL_sL, gL_sF, gL_sQ, gL_sG, gL_sN, gF_sI, gF_sR, gF_sA, gF_sL, gF_sF, gF_sQ, gF_sG, gF_sN, gQ_sI, gQ_sR, gQ_sA, gQ_sL, gQ_sF, gQ_sQ, gQ_sG, gQ_sN, gN_sI, gN_sR, gN_sA, gN_sL, gN_sF, gN_sQ, gN_sG, gN_sN, gS_sI, gS_sR, gS_sA, gS_sL, gS_sF, gS_sQ, gS_sG, gS_sN, gO_sI, gO_sR, gO_sA, gO_sL, gO_sF, gO_sQ, gO_sN, isR_ref, isR_null, isR_rf, isR2_ref, isR2_null, isR2_rf, am_k_int, am_k_ref, am_k_null, am_k_rf, am_k_none, am_k_long, am_k_double, rf_some, rf_none, KT_ret, KT_void, XP_ap, true_and, and_true, Nat.reduceAdd, Nat.reduceEqDiff, reduceIte, if_true, if_false, eq_self, true_or, or_true, forall_const, not_true_eq_false, not_false_eq_true, hf0, Value.ref.injEq, false_imp_iff, true_imp_iff, not_false_eq_true]
      exact base (two1 _ (.inl e1))
    · simp only [x62_0, x62_1, x62_4, x62_5, x62_6, x62_9, x62_12, x62_15, x62_16, x62_19, x62_22, x62_25, x62_26, x62_29, x62_30, x62_31, x62_32, x62_35, x62_38, x62_41, x62_42, x62_45, x62_48, x62_51, x62_52, x62_55, x62_58, x62_61, x62_62, x62_65, x62_68, x62_71, x62_72, x62_75, x62_78, x62_81, x62_82, x62_85, x62_86, gI_sI, gI_sR, gI_sA, gI_sL, gI_sF, gI_sQ, gI_sG, gI_sN, gR_sI, gR_sR, gR_sA, gR_sL, gR_sF, gR_sQ, gR_sG, gR_sN, gA_sI, gA_sR, gA_sA, gA_sL, gA_sF, gA_sQ, gA_sG, gA_sN, gL_sI, gL_sR, gL_sA, gL_sL, gL_sF, gL_sQ, gL_sG, gL_sN, gF_sI, gF_sR, gF_sA, gF_sL, gF_sF, gF_sQ, gF_sG, gF_sN, gQ_sI, gQ_sR, gQ_sA, gQ_sL, gQ_sF, gQ_sQ, gQ_sG, gQ_sN, gN_sI, gN_sR, gN_sA, gN_sL, gN_sF, gN_sQ, gN_sG, gN_sN, gS_sI, gS_sR, gS_sA, gS_sL, gS_sF, gS_sQ, gS_sG, gS_sN, gO_sI, gO_sR, gO_sA, gO_sL, gO_sF, gO_sQ, gO_sN, isR_ref, isR_null, isR_rf, isR2_ref, isR2_null, isR2_rf, am_k_int, am_k_ref, am_k_null, am_k_rf, am_k_none, am_k_long, am_k_double, rf_some, rf_none, KT_ret, KT_void, XP_ap, true_and, and_true, Nat.reduceAdd, Nat.reduceEqDiff, reduceIte, if_true, if_false, eq_self, true_or, or_true, forall_const, not_true_eq_false, not_false_eq_true, hf0, Value.ref.injEq, false_imp_iff, true_imp_iff, not_false_eq_true]
      exact base (two1 _ (.inr (.inl e1)))
    · simp only [x62_0, x62_1, x62_4, x62_5, x62_6, x62_9, x62_12, x62_15, x62_16, x62_19, x62_22, x62_25, x62_26, x62_29, x62_30, x62_31, x62_32, x62_35, x62_38, x62_41, x62_42, x62_45, x62_48, x62_51, x62_52, x62_55, x62_58, x62_61, x62_62, x62_65, x62_68, x62_71, x62_72, x62_75, x62_78, x62_81, x62_82, x62_85, x62_86, gI_sI, gI_sR, gI_sA, gI_sL, gI_sF, gI_sQ, gI_sG, gI_sN, gR_sI, gR_sR, gR_sA, gR_sL, gR_sF, gR_sQ, gR_sG, gR_sN, gA_sI, gA_sR, gA_sA, gA_sL, gA_sF, gA_sQ, gA_sG, gA_sN, gL_sI, gL_sR, gL_sA, gL_sL, gL_sF, gL_sQ, gL_sG, gL_sN, gF_sI, gF_sR, gF_sA, gF_sL, gF_sF, gF_sQ, gF_sG, gF_sN, gQ_sI, gQ_sR, gQ_sA, gQ_sL, gQ_sF, gQ_sQ, gQ_sG, gQ_sN, gN_sI, gN_sR, gN_sA, gN_sL, gN_sF, gN_sQ, gN_sG, gN_sN, gS_sI, gS_sR, gS_sA, gS_sL, gS_sF, gS_sQ, gS_sG, gS_sN, gO_sI, gO_sR, gO_sA, gO_sL, gO_sF, gO_sQ, gO_sN, isR_ref, isR_null, isR_rf, isR2_ref, isR2_null, isR2_rf, am_k_int, am_k_ref, am_k_null, am_k_rf, am_k_none, am_k_long, am_k_double, rf_some, rf_none, KT_ret, KT_void, XP_ap, true_and, and_true, Nat.reduceAdd, Nat.reduceEqDiff, reduceIte, if_true, if_false, eq_self, true_or, or_true, forall_const, not_true_eq_false, not_false_eq_true, hf0, Value.ref.injEq, false_imp_iff, true_imp_iff, not_false_eq_true]
      exact base (two1 _ (.inr (.inr e1)))
    · subst e0
      have hwb : ty_w (tm b) + 2 ≤ w + 1 := by rw [e3] at hw; exact hw
      have hh : ∀ u, ty_h u (tm r) ↔ ty_h u (tm b) := fun u => by rw [e3]; rfl
      simp only [x62_0, x62_1, x62_4, x62_5, x62_6, x62_9, x62_12, x62_15, x62_16, x62_19, x62_22, x62_25, x62_26, x62_29, x62_30, x62_31, x62_32, x62_35, x62_38, x62_41, x62_42, x62_45, x62_48, x62_51, x62_52, x62_55, x62_58, x62_61, x62_62, x62_65, x62_68, x62_71, x62_72, x62_75, x62_78, x62_81, x62_82, x62_85, x62_86, gI_sI, gI_sR, gI_sA, gI_sL, gI_sF, gI_sQ, gI_sG, gI_sN, gR_sI, gR_sR, gR_sA, gR_sL, gR_sF, gR_sQ, gR_sG, gR_sN, gA_sI, gA_sR, gA_sA, gA_sL, gA_sF, gA_sQ, gA_sG, gA_sN, gL_sI, gL_sR, gL_sA, gL_sL, gL_sF, gL_sQ, gL_sG, gL_sN, gF_sI, gF_sR, gF_sA, gF_sL, gF_sF, gF_sQ, gF_sG, gF_sN, gQ_sI, gQ_sR, gQ_sA, gQ_sL, gQ_sF, gQ_sQ, gQ_sG, gQ_sN, gN_sI, gN_sR, gN_sA, gN_sL, gN_sF, gN_sQ, gN_sG, gN_sN, gS_sI, gS_sR, gS_sA, gS_sL, gS_sF, gS_sQ, gS_sG, gS_sN, gO_sI, gO_sR, gO_sA, gO_sL, gO_sF, gO_sQ, gO_sN, isR_ref, isR_null, isR_rf, isR2_ref, isR2_null, isR2_rf, am_k_int, am_k_ref, am_k_null, am_k_rf, am_k_none, am_k_long, am_k_double, rf_some, rf_none, KT_ret, KT_void, XP_ap, true_and, and_true, Nat.reduceAdd, Nat.reduceEqDiff, reduceIte, if_true, if_false, eq_self, true_or, or_true, forall_const, not_true_eq_false, not_false_eq_true, hf0, hf1, Value.ref.injEq, false_imp_iff, true_imp_iff, not_false_eq_true]
      refine ih b d' _ hH hL e2 (by omega) (by omega) (fun z => ?_) (fun z => ?_)
      · simp only [x62_0, x62_1, x62_4, x62_5, x62_6, x62_9, x62_12, x62_15, x62_16, x62_19, x62_22, x62_25, x62_26, x62_29, x62_30, x62_31, x62_32, x62_35, x62_38, x62_41, x62_42, x62_45, x62_48, x62_51, x62_52, x62_55, x62_58, x62_61, x62_62, x62_65, x62_68, x62_71, x62_72, x62_75, x62_78, x62_81, x62_82, x62_85, x62_86, gI_sI, gI_sR, gI_sA, gI_sL, gI_sF, gI_sQ, gI_sG, gI_sN, gR_sI, gR_sR, gR_sA, gR_sL, gR_sF, gR_sQ, gR_sG, gR_sN, gA_sI, gA_sR, gA_sA, gA_sL, gA_sF, gA_sQ, gA_sG, gA_sN, gL_sI, gL_sR, gL_sA, gL_sL, gL_sF, gL_sQ, gL_sG, gL_sN, gF_sI, gF_sR, gF_sA, gF_sL, gF_sF, gF_sQ, gF_sG, gF_sN, gQ_sI, gQ_sR, gQ_sA, gQ_sL, gQ_sF, gQ_sQ, gQ_sG, gQ_sN, gN_sI, gN_sR, gN_sA, gN_sL, gN_sF, gN_sQ, gN_sG, gN_sN, gS_sI, gS_sR, gS_sA, gS_sL, gS_sF, gS_sQ, gS_sG, gS_sN, gO_sI, gO_sR, gO_sA, gO_sL, gO_sF, gO_sQ, gO_sN, isR_ref, isR_null, isR_rf, isR2_ref, isR2_null, isR2_rf, am_k_int, am_k_ref, am_k_null, am_k_rf, am_k_none, am_k_long, am_k_double, rf_some, rf_none, KT_ret, KT_void, XP_ap, true_and, and_true, Nat.reduceAdd, Nat.reduceEqDiff, reduceIte, if_true, if_false, eq_self, true_or, or_true, forall_const, not_true_eq_false, not_false_eq_true, i_10, hf0, Value.ref.injEq, false_imp_iff, true_imp_iff, not_false_eq_true]
        obtain ⟨u, z1, z2⟩ := z
        exact h1 ⟨u, (hh u).mpr z1, z2⟩
      · simp only [x62_0, x62_1, x62_4, x62_5, x62_6, x62_9, x62_12, x62_15, x62_16, x62_19, x62_22, x62_25, x62_26, x62_29, x62_30, x62_31, x62_32, x62_35, x62_38, x62_41, x62_42, x62_45, x62_48, x62_51, x62_52, x62_55, x62_58, x62_61, x62_62, x62_65, x62_68, x62_71, x62_72, x62_75, x62_78, x62_81, x62_82, x62_85, x62_86, gI_sI, gI_sR, gI_sA, gI_sL, gI_sF, gI_sQ, gI_sG, gI_sN, gR_sI, gR_sR, gR_sA, gR_sL, gR_sF, gR_sQ, gR_sG, gR_sN, gA_sI, gA_sR, gA_sA, gA_sL, gA_sF, gA_sQ, gA_sG, gA_sN, gL_sI, gL_sR, gL_sA, gL_sL, gL_sF, gL_sQ, gL_sG, gL_sN, gF_sI, gF_sR, gF_sA, gF_sL, gF_sF, gF_sQ, gF_sG, gF_sN, gQ_sI, gQ_sR, gQ_sA, gQ_sL, gQ_sF, gQ_sQ, gQ_sG, gQ_sN, gN_sI, gN_sR, gN_sA, gN_sL, gN_sF, gN_sQ, gN_sG, gN_sN, gS_sI, gS_sR, gS_sA, gS_sL, gS_sF, gS_sQ, gS_sG, gS_sN, gO_sI, gO_sR, gO_sA, gO_sL, gO_sF, gO_sQ, gO_sN, isR_ref, isR_null, isR_rf, isR2_ref, isR2_null, isR2_rf, am_k_int, am_k_ref, am_k_null, am_k_rf, am_k_none, am_k_long, am_k_double, rf_some, rf_none, KT_ret, KT_void, XP_ap, true_and, and_true, Nat.reduceAdd, Nat.reduceEqDiff, reduceIte, if_true, if_false, eq_self, true_or, or_true, forall_const, not_true_eq_false, not_false_eq_true, i_10, hf0, Value.ref.injEq, false_imp_iff, true_imp_iff, not_false_eq_true]
        exact h0 fun u hu => z u ((hh u).mp hu)
    · subst e0 e0'
      have hwb : ty_w (tm b) + ty_w (tm c) + 3 ≤ w + 1 := by rw [e5] at hw; exact hw
      have hh : ∀ u, ty_h u (tm r) ↔ ty_h u (tm b) ∨ ty_h u (tm c) := fun u => by rw [e5]; rfl
      simp only [x62_0, x62_1, x62_4, x62_5, x62_6, x62_9, x62_12, x62_15, x62_16, x62_19, x62_22, x62_25, x62_26, x62_29, x62_30, x62_31, x62_32, x62_35, x62_38, x62_41, x62_42, x62_45, x62_48, x62_51, x62_52, x62_55, x62_58, x62_61, x62_62, x62_65, x62_68, x62_71, x62_72, x62_75, x62_78, x62_81, x62_82, x62_85, x62_86, gI_sI, gI_sR, gI_sA, gI_sL, gI_sF, gI_sQ, gI_sG, gI_sN, gR_sI, gR_sR, gR_sA, gR_sL, gR_sF, gR_sQ, gR_sG, gR_sN, gA_sI, gA_sR, gA_sA, gA_sL, gA_sF, gA_sQ, gA_sG, gA_sN, gL_sI, gL_sR, gL_sA, gL_sL, gL_sF, gL_sQ, gL_sG, gL_sN, gF_sI, gF_sR, gF_sA, gF_sL, gF_sF, gF_sQ, gF_sG, gF_sN, gQ_sI, gQ_sR, gQ_sA, gQ_sL, gQ_sF, gQ_sQ, gQ_sG, gQ_sN, gN_sI, gN_sR, gN_sA, gN_sL, gN_sF, gN_sQ, gN_sG, gN_sN, gS_sI, gS_sR, gS_sA, gS_sL, gS_sF, gS_sQ, gS_sG, gS_sN, gO_sI, gO_sR, gO_sA, gO_sL, gO_sF, gO_sQ, gO_sN, isR_ref, isR_null, isR_rf, isR2_ref, isR2_null, isR2_rf, am_k_int, am_k_ref, am_k_null, am_k_rf, am_k_none, am_k_long, am_k_double, rf_some, rf_none, KT_ret, KT_void, XP_ap, true_and, and_true, Nat.reduceAdd, Nat.reduceEqDiff, reduceIte, if_true, if_false, eq_self, true_or, or_true, forall_const, not_true_eq_false, not_false_eq_true, hf0, hf1, hf2, Value.ref.injEq, false_imp_iff, true_imp_iff, not_false_eq_true]
      refine ih b d' _ hH hL e3 (by omega) (by omega) (fun z => ?_) (fun z => ?_)
      · simp only [x62_0, x62_1, x62_4, x62_5, x62_6, x62_9, x62_12, x62_15, x62_16, x62_19, x62_22, x62_25, x62_26, x62_29, x62_30, x62_31, x62_32, x62_35, x62_38, x62_41, x62_42, x62_45, x62_48, x62_51, x62_52, x62_55, x62_58, x62_61, x62_62, x62_65, x62_68, x62_71, x62_72, x62_75, x62_78, x62_81, x62_82, x62_85, x62_86, gI_sI, gI_sR, gI_sA, gI_sL, gI_sF, gI_sQ, gI_sG, gI_sN, gR_sI, gR_sR, gR_sA, gR_sL, gR_sF, gR_sQ, gR_sG, gR_sN, gA_sI, gA_sR, gA_sA, gA_sL, gA_sF, gA_sQ, gA_sG, gA_sN, gL_sI, gL_sR, gL_sA, gL_sL, gL_sF, gL_sQ, gL_sG, gL_sN, gF_sI, gF_sR, gF_sA, gF_sL, gF_sF, gF_sQ, gF_sG, gF_sN, gQ_sI, gQ_sR, gQ_sA, gQ_sL, gQ_sF, gQ_sQ, gQ_sG, gQ_sN, gN_sI, gN_sR, gN_sA, gN_sL, gN_sF, gN_sQ, gN_sG, gN_sN, gS_sI, gS_sR, gS_sA, gS_sL, gS_sF, gS_sQ, gS_sG, gS_sN, gO_sI, gO_sR, gO_sA, gO_sL, gO_sF, gO_sQ, gO_sN, isR_ref, isR_null, isR_rf, isR2_ref, isR2_null, isR2_rf, am_k_int, am_k_ref, am_k_null, am_k_rf, am_k_none, am_k_long, am_k_double, rf_some, rf_none, KT_ret, KT_void, XP_ap, true_and, and_true, Nat.reduceAdd, Nat.reduceEqDiff, reduceIte, if_true, if_false, eq_self, true_or, or_true, forall_const, not_true_eq_false, not_false_eq_true, i_10, hf0, Value.ref.injEq, false_imp_iff, true_imp_iff, not_false_eq_true]
        obtain ⟨u, z1, z2⟩ := z
        exact h1 ⟨u, (hh u).mpr (.inl z1), z2⟩
      · simp only [x62_0, x62_1, x62_4, x62_5, x62_6, x62_9, x62_12, x62_15, x62_16, x62_19, x62_22, x62_25, x62_26, x62_29, x62_30, x62_31, x62_32, x62_35, x62_38, x62_41, x62_42, x62_45, x62_48, x62_51, x62_52, x62_55, x62_58, x62_61, x62_62, x62_65, x62_68, x62_71, x62_72, x62_75, x62_78, x62_81, x62_82, x62_85, x62_86, gI_sI, gI_sR, gI_sA, gI_sL, gI_sF, gI_sQ, gI_sG, gI_sN, gR_sI, gR_sR, gR_sA, gR_sL, gR_sF, gR_sQ, gR_sG, gR_sN, gA_sI, gA_sR, gA_sA, gA_sL, gA_sF, gA_sQ, gA_sG, gA_sN, gL_sI, gL_sR, gL_sA, gL_sL, gL_sF, gL_sQ, gL_sG, gL_sN, gF_sI, gF_sR, gF_sA, gF_sL, gF_sF, gF_sQ, gF_sG, gF_sN, gQ_sI, gQ_sR, gQ_sA, gQ_sL, gQ_sF, gQ_sQ, gQ_sG, gQ_sN, gN_sI, gN_sR, gN_sA, gN_sL, gN_sF, gN_sQ, gN_sG, gN_sN, gS_sI, gS_sR, gS_sA, gS_sL, gS_sF, gS_sQ, gS_sG, gS_sN, gO_sI, gO_sR, gO_sA, gO_sL, gO_sF, gO_sQ, gO_sN, isR_ref, isR_null, isR_rf, isR2_ref, isR2_null, isR2_rf, am_k_int, am_k_ref, am_k_null, am_k_rf, am_k_none, am_k_long, am_k_double, rf_some, rf_none, KT_ret, KT_void, XP_ap, true_and, and_true, Nat.reduceAdd, Nat.reduceEqDiff, reduceIte, if_true, if_false, eq_self, true_or, or_true, forall_const, not_true_eq_false, not_false_eq_true, i_10, hf0, hf2, Value.ref.injEq, false_imp_iff, true_imp_iff, not_false_eq_true]
        refine ih c d' _ hH hL e4 (by omega) (by omega) (fun z2 => ?_) (fun z2 => ?_)
        · simp only [x62_0, x62_1, x62_4, x62_5, x62_6, x62_9, x62_12, x62_15, x62_16, x62_19, x62_22, x62_25, x62_26, x62_29, x62_30, x62_31, x62_32, x62_35, x62_38, x62_41, x62_42, x62_45, x62_48, x62_51, x62_52, x62_55, x62_58, x62_61, x62_62, x62_65, x62_68, x62_71, x62_72, x62_75, x62_78, x62_81, x62_82, x62_85, x62_86, gI_sI, gI_sR, gI_sA, gI_sL, gI_sF, gI_sQ, gI_sG, gI_sN, gR_sI, gR_sR, gR_sA, gR_sL, gR_sF, gR_sQ, gR_sG, gR_sN, gA_sI, gA_sR, gA_sA, gA_sL, gA_sF, gA_sQ, gA_sG, gA_sN, gL_sI, gL_sR, gL_sA, gL_sL, gL_sF, gL_sQ, gL_sG, gL_sN, gF_sI, gF_sR, gF_sA, gF_sL, gF_sF, gF_sQ, gF_sG, gF_sN, gQ_sI, gQ_sR, gQ_sA, gQ_sL, gQ_sF, gQ_sQ, gQ_sG, gQ_sN, gN_sI, gN_sR, gN_sA, gN_sL, gN_sF, gN_sQ, gN_sG, gN_sN, gS_sI, gS_sR, gS_sA, gS_sL, gS_sF, gS_sQ, gS_sG, gS_sN, gO_sI, gO_sR, gO_sA, gO_sL, gO_sF, gO_sQ, gO_sN, isR_ref, isR_null, isR_rf, isR2_ref, isR2_null, isR2_rf, am_k_int, am_k_ref, am_k_null, am_k_rf, am_k_none, am_k_long, am_k_double, rf_some, rf_none, KT_ret, KT_void, XP_ap, true_and, and_true, Nat.reduceAdd, Nat.reduceEqDiff, reduceIte, if_true, if_false, eq_self, true_or, or_true, forall_const, not_true_eq_false, not_false_eq_true, i_10, false_imp_iff, true_imp_iff, not_false_eq_true]
          obtain ⟨u, y1, y2⟩ := z2
          exact h1 ⟨u, (hh u).mpr (.inr y1), y2⟩
        · simp only [x62_0, x62_1, x62_4, x62_5, x62_6, x62_9, x62_12, x62_15, x62_16, x62_19, x62_22, x62_25, x62_26, x62_29, x62_30, x62_31, x62_32, x62_35, x62_38, x62_41, x62_42, x62_45, x62_48, x62_51, x62_52, x62_55, x62_58, x62_61, x62_62, x62_65, x62_68, x62_71, x62_72, x62_75, x62_78, x62_81, x62_82, x62_85, x62_86, gI_sI, gI_sR, gI_sA, gI_sL, gI_sF, gI_sQ, gI_sG, gI_sN, gR_sI, gR_sR, gR_sA, gR_sL, gR_sF, gR_sQ, gR_sG, gR_sN, gA_sI, gA_sR, gA_sA, gA_sL, gA_sF, gA_sQ, gA_sG, gA_sN, gL_sI, gL_sR, gL_sA, gL_sL, gL_sF, gL_sQ, gL_sG, gL_sN, gF_sI, gF_sR, gF_sA, gF_sL, gF_sF, gF_sQ, gF_sG, gF_sN, gQ_sI, gQ_sR, gQ_sA, gQ_sL, gQ_sF, gQ_sQ, gQ_sG, gQ_sN, gN_sI, gN_sR, gN_sA, gN_sL, gN_sF, gN_sQ, gN_sG, gN_sN, gS_sI, gS_sR, gS_sA, gS_sL, gS_sF, gS_sQ, gS_sG, gS_sN, gO_sI, gO_sR, gO_sA, gO_sL, gO_sF, gO_sQ, gO_sN, isR_ref, isR_null, isR_rf, isR2_ref, isR2_null, isR2_rf, am_k_int, am_k_ref, am_k_null, am_k_rf, am_k_none, am_k_long, am_k_double, rf_some, rf_none, KT_ret, KT_void, XP_ap, true_and, and_true, Nat.reduceAdd, Nat.reduceEqDiff, reduceIte, if_true, if_false, eq_self, true_or, or_true, forall_const, not_true_eq_false, not_false_eq_true, i_10, false_imp_iff, true_imp_iff, not_false_eq_true]
          exact h0 fun u hu => ((hh u).mp hu).elim (z u) (z2 u)
/-- something that is no type comes -/
theorem TH.junk {o : am_C} (h : TH D G tm ρ) (ho : ∀ srt one two cp lv st, ¬ o = .inr (2, [.ref srt, va_rf one, va_rf two, va_rf cp, .int lv, .int st])) : TH (sN D o k) (upf G (82 + gN D) (0, 0, 0)) (upf tm (82 + gN D) (.var (82 + gN D + 3))) ρ ∧ ∀ b, isT (sN D o k) b ↔ isT D b := by
  have hno : ∀ srt one two cp lv st, ¬ TY (sN D o k) (82 + gN D) srt one two cp lv st := by
    intro srt one two cp lv st ht
    unfold TY at ht
    rw [gO_sN, if_pos rfl] at ht
    exact ho _ _ _ _ _ _ (Option.some.inj ht)
  have hold : ¬ isT D (82 + gN D) := fun z => Nat.lt_irrefl _ (h.lt z)
  have hist : ∀ b, isT (sN D o k) b ↔ isT D b := by
    intro b
    by_cases hb : b = 82 + gN D
    · subst hb
      exact ⟨fun ⟨_, _, _, _, _, _, z⟩ => absurd z (hno _ _ _ _ _ _), fun z => absurd z hold⟩
    · unfold isT TY; rw [gO_sN, if_neg hb]
  refine ⟨⟨?_, fun a srt one two cp lv st ht => ?_, fun a ha => ?_⟩, hist⟩
  · have : 82 + gN (sN D o k) = 82 + gN D + 1 := by rw [gN_sN]; omega
    rw [this]
    refine h.1.new ⟨by decide, fun _ => upf_eq, fun z => ?_, fun z => ?_, fun z => ?_, fun z => ?_, fun z => ?_, fun z => ?_⟩ <;> cases z
  · have hne : ¬ a = 82 + gN D := fun z => by subst z; exact hno _ _ _ _ _ _ ht
    have ht' : TY D a srt one two cp lv st := by unfold TY at ht ⊢; rw [gO_sN, if_neg hne] at ht; exact ht
    obtain ⟨k1, k2⟩ := h.2.1 _ _ _ _ _ _ _ ht'
    refine ⟨by rw [gN_sN]; omega, ?_⟩
    unfold TK at k2 ⊢
    rw [upf_ne hne]
    simp only [hist]
    exact k2
  · by_cases hne : a = 82 + gN D
    · subst hne; rw [upf_eq]
    · rw [upf_ne hne]; exact h.2.2 a fun z => ha ((hist a).mpr z)
/-- the node and the term of a new type -/
def nK (D : sS) (tm : Nat → tE) (N srt : Nat) (one two : Option Nat) (z : Nat × Nat × Nat) (u : tE) : Prop := (srt = 0 ∧ one = none ∧ z = (0, 0, 0) ∧ u = .var (N + 3)) ∨ (srt = 4 ∧ ∃ b, one = some b ∧ isT D b ∧ z = (4, b, 0) ∧ u = .neg (tm b)) ∨ (srt = 5 ∧ ∃ b c, one = some b ∧ two = some c ∧ isT D b ∧ isT D c ∧ z = (5, b, c) ∧ u = .add (tm b) (tm c))
/-- a type comes -/
theorem TH.newT {z : Nat × Nat × Nat} {u : tE} (h : TH D G tm ρ) (hk : nK D tm (82 + gN D) srt one two z u) : TH (sN D (.inr (2, [.ref srt, va_rf one, va_rf two, va_rf cp, .int lv, .int st])) k) (upf G (82 + gN D) z) (upf tm (82 + gN D) u) ρ ∧ (∀ b, isT (sN D (.inr (2, [.ref srt, va_rf one, va_rf two, va_rf cp, .int lv, .int st])) k) b ↔ isT D b ∨ b = 82 + gN D) ∧ TY (sN D (.inr (2, [.ref srt, va_rf one, va_rf two, va_rf cp, .int lv, .int st])) k) (82 + gN D) srt one two cp lv st := by
  have hTN : TY (sN D (.inr (2, [.ref srt, va_rf one, va_rf two, va_rf cp, .int lv, .int st])) k) (82 + gN D) srt one two cp lv st := by
    unfold TY; rw [gO_sN, if_pos rfl]
  have hold : ¬ isT D (82 + gN D) := fun z => Nat.lt_irrefl _ (h.lt z)
  have hist : ∀ b, isT (sN D (.inr (2, [.ref srt, va_rf one, va_rf two, va_rf cp, .int lv, .int st])) k) b ↔ isT D b ∨ b = 82 + gN D := by
    intro b
    by_cases hb : b = 82 + gN D
    · subst hb
      exact ⟨fun _ => .inr rfl, fun _ => ⟨_, _, _, _, _, _, hTN⟩⟩
    · rw [or_iff_left hb]; unfold isT TY; rw [gO_sN, if_neg hb]
  refine ⟨⟨?_, fun a srt' one' two' cp' lv' st' ht => ?_, fun a ha => ?_⟩, hist, hTN⟩
  · have e : 82 + gN (sN D (.inr (2, [.ref srt, va_rf one, va_rf two, va_rf cp, .int lv, .int st])) k) = 82 + gN D + 1 := by rw [gN_sN]; omega
    rw [e]
    refine h.1.new ?_
    rcases hk with ⟨_, _, rfl, rfl⟩ | ⟨_, b, _, hb, rfl, rfl⟩ | ⟨_, b, c, _, _, hb, hc, rfl, rfl⟩
    · refine ⟨by decide, fun _ => upf_eq, fun z => ?_, fun z => ?_, fun z => ?_, fun z => ?_, fun z => ?_, fun z => ?_⟩ <;> cases z
    · have hbl := h.lt hb
      refine ⟨by show 4 ≤ 6; decide, fun z => ?_, fun z => ?_, fun z => ?_, fun z => ?_, fun _ => ⟨by show b < _; omega, ?_⟩, fun z => ?_, fun z => ?_⟩ <;> try (cases z; done)
      rw [upf_eq, upf_ne (by show ¬ b = _; omega)]
    · have hbl := h.lt hb
      have hcl := h.lt hc
      refine ⟨by show 5 ≤ 6; decide, fun z => ?_, fun z => ?_, fun z => ?_, fun z => ?_, fun z => ?_, fun _ => ⟨by show b < _; omega, by show c < _; omega, ?_⟩, fun z => ?_⟩ <;> try (cases z; done)
      rw [upf_eq, upf_ne (by show ¬ b = _; omega), upf_ne (by show ¬ c = _; omega)]
  · by_cases hne : a = 82 + gN D
    · subst hne
      obtain ⟨rfl, rfl, rfl, _⟩ := hTN.eq ht
      refine ⟨by rw [gN_sN]; omega, ?_⟩
      unfold TK
      rw [upf_eq]
      simp only [hist]
      rcases hk with ⟨e1, e2, rfl, _⟩ | ⟨e1, b, e2, hb, rfl, _⟩ | ⟨e1, b, c, e2, e3, hb, hc, rfl, _⟩
      · exact .inl ⟨e1, .inl ⟨e2, rfl⟩⟩
      · exact .inr (.inr (.inr (.inr (.inl ⟨e1, b, e2, rfl, .inl hb⟩))))
      · exact .inr (.inr (.inr (.inr (.inr ⟨e1, b, c, e2, e3, rfl, .inl hb, .inl hc⟩))))
    · have ht' : TY D a srt' one' two' cp' lv' st' := by unfold TY at ht ⊢; rw [gO_sN, if_neg hne] at ht; exact ht
      obtain ⟨k1, k2⟩ := h.2.1 _ _ _ _ _ _ _ ht'
      refine ⟨by rw [gN_sN]; omega, ?_⟩
      unfold TK at k2 ⊢
      rw [upf_ne hne]
      rcases k2 with ⟨e, g1 | ⟨b, g1, g2, g3⟩⟩ | g | g | g | ⟨e, b, g1, g2, g3⟩ | ⟨e, b, c, g1, g2, g3, g4, g5⟩
      · exact .inl ⟨e, .inl g1⟩
      · exact .inl ⟨e, .inr ⟨b, g1, g2, (hist b).mpr (.inl g3)⟩⟩
      · exact .inr (.inl g)
      · exact .inr (.inr (.inl g))
      · exact .inr (.inr (.inr (.inl g)))
      · exact .inr (.inr (.inr (.inr (.inl ⟨e, b, g1, g2, (hist b).mpr (.inl g3)⟩))))
      · exact .inr (.inr (.inr (.inr (.inr ⟨e, b, c, g1, g2, g3, (hist b).mpr (.inl g4), (hist c).mpr (.inl g5)⟩))))
  · have h1 : ¬ a = 82 + gN D := fun z => ha ((hist a).mpr (.inr z))
    rw [upf_ne h1]
    exact h.2.2 a fun z => ha ((hist a).mpr (.inl z))
theorem f_type (hd : 1 ≤ d) (ho : gO D a = some (.inr (2, [.null, .null, .null, .null, .int 0, .int 0]))) (hQ : Q (.inl none) (toH (sG D a (.inr (2, [.ref srt, va_rf one, va_rf two, .null, .int 0, .int 0]))))) : AC d 74 [.ref a, .ref srt, va_rf one, va_rf two] (toH D) Q := by
  refine AC.pos hd fun d' hd' => ?_
  rw [e74 rfl rfl isR_rf isR_rf]
  simp only [x74_0, x74_1, x74_4, x74_5, x74_6, x74_6a, x74_6n, x74_9, x74_10, x74_11, x74_11a, x74_11n, x74_14, x74_15, x74_16, x74_16a, x74_16n, x74_19, gI_sI, gI_sR, gI_sA, gI_sL, gI_sF, gI_sQ, gI_sG, gI_sN, gR_sI, gR_sR, gR_sA, gR_sL, gR_sF, gR_sQ, gR_sG, gR_sN, gA_sI, gA_sR, gA_sA, gA_sL, gA_sF, gA_sQ, gA_sG, gA_sN, gL_sI, gL_sR, gL_sA, gL_sL, gL_sF, gL_sQ, gL_sG, gL_sN, gF_sI, gF_sR, gF_sA, gF_sL, gF_sF, gF_sQ, gF_sG, gF_sN, gQ_sI, gQ_sR, gQ_sA, gQ_sL, gQ_sF, gQ_sQ, gQ_sG, gQ_sN, gN_sI, gN_sR, gN_sA, gN_sL, gN_sF, gN_sQ, gN_sG, gN_sN, gS_sI, gS_sR, gS_sA, gS_sL, gS_sF, gS_sQ, gS_sG, gS_sN, gO_sI, gO_sR, gO_sA, gO_sL, gO_sF, gO_sQ, gO_sN, isR_ref, isR_null, isR_rf, isR2_ref, isR2_null, isR2_rf, am_k_int, am_k_ref, am_k_null, am_k_rf, am_k_none, am_k_long, am_k_double, rf_some, rf_none, KT_ret, KT_void, XP_ap, true_and, and_true, Nat.reduceAdd, Nat.reduceEqDiff, reduceIte, if_true, if_false, eq_self, true_or, or_true, forall_const, not_true_eq_false, not_false_eq_true, pO, ho, gO_gg ho, sG_sG, List.set_cons_zero, List.set_cons_succ]
  exact ⟨rfl, Nat.le_of_ble_eq_true rfl, rfl, Nat.le_of_ble_eq_true rfl, rfl, Nat.le_of_ble_eq_true rfl, hQ⟩
theorem f_fresh (hd : 2 ≤ d) (hcap : capok D 6) (hQ : Q (.inl (some (.ref (82 + gN D)))) (toH (sN D (.inr (2, [.ref 0, va_rf none, va_rf none, va_rf none, .int (gI D 131), .int 0])) 6))) : AC d 53 [.ref 25] (toH D) Q := by
  refine AC.pos hd fun d' hd' => ?_
  rw [e53]
  simp only [x53_0, x53_3, x53_3f, x53_4, x53_7, x53_8, x53_9, x53_12, x53_13, x53_14, x53_15, x53_18, x53_21, x53_22, gI_sI, gI_sR, gI_sA, gI_sL, gI_sF, gI_sQ, gI_sG, gI_sN, gR_sI, gR_sR, gR_sA, gR_sL, gR_sF, gR_sQ, gR_sG, gR_sN, gA_sI, gA_sR, gA_sA, gA_sL, gA_sF, gA_sQ, gA_sG, gA_sN, gL_sI, gL_sR, gL_sA, gL_sL, gL_sF, gL_sQ, gL_sG, gL_sN, gF_sI, gF_sR, gF_sA, gF_sL, gF_sF, gF_sQ, gF_sG, gF_sN, gQ_sI, gQ_sR, gQ_sA, gQ_sL, gQ_sF, gQ_sQ, gQ_sG, gQ_sN, gN_sI, gN_sR, gN_sA, gN_sL, gN_sF, gN_sQ, gN_sG, gN_sN, gS_sI, gS_sR, gS_sA, gS_sL, gS_sF, gS_sQ, gS_sG, gS_sN, gO_sI, gO_sR, gO_sA, gO_sL, gO_sF, gO_sQ, gO_sN, isR_ref, isR_null, isR_rf, isR2_ref, isR2_null, isR2_rf, am_k_int, am_k_ref, am_k_null, am_k_rf, am_k_none, am_k_long, am_k_double, rf_some, rf_none, KT_ret, KT_void, XP_ap, true_and, and_true, Nat.reduceAdd, Nat.reduceEqDiff, reduceIte, if_true, if_false, eq_self, true_or, or_true, forall_const, not_true_eq_false, not_false_eq_true]
  refine ⟨hcap, ?_⟩
  show AC d' 74 [.ref (82 + gN D), .ref 0, va_rf none, va_rf none] _ _
  refine f_type (by omega) gO_new ?_
  rw [sG_sN]
  simp only [x53_0, x53_3, x53_3f, x53_4, x53_7, x53_8, x53_9, x53_12, x53_13, x53_14, x53_15, x53_18, x53_21, x53_22, gI_sI, gI_sR, gI_sA, gI_sL, gI_sF, gI_sQ, gI_sG, gI_sN, gR_sI, gR_sR, gR_sA, gR_sL, gR_sF, gR_sQ, gR_sG, gR_sN, gA_sI, gA_sR, gA_sA, gA_sL, gA_sF, gA_sQ, gA_sG, gA_sN, gL_sI, gL_sR, gL_sA, gL_sL, gL_sF, gL_sQ, gL_sG, gL_sN, gF_sI, gF_sR, gF_sA, gF_sL, gF_sF, gF_sQ, gF_sG, gF_sN, gQ_sI, gQ_sR, gQ_sA, gQ_sL, gQ_sF, gQ_sQ, gQ_sG, gQ_sN, gN_sI, gN_sR, gN_sA, gN_sL, gN_sF, gN_sQ, gN_sG, gN_sN, gS_sI, gS_sR, gS_sA, gS_sL, gS_sF, gS_sQ, gS_sG, gS_sN, gO_sI, gO_sR, gO_sA, gO_sL, gO_sF, gO_sQ, gO_sN, isR_ref, isR_null, isR_rf, isR2_ref, isR2_null, isR2_rf, am_k_int, am_k_ref, am_k_null, am_k_rf, am_k_none, am_k_long, am_k_double, rf_some, rf_none, KT_ret, KT_void, XP_ap, true_and, and_true, Nat.reduceAdd, Nat.reduceEqDiff, reduceIte, if_true, if_false, eq_self, true_or, or_true, forall_const, not_true_eq_false, not_false_eq_true]
  rw [pO_set gO_new rfl (Nat.le_of_ble_eq_true rfl), sG_sN]
  simp only [x53_0, x53_3, x53_3f, x53_4, x53_7, x53_8, x53_9, x53_12, x53_13, x53_14, x53_15, x53_18, x53_21, x53_22, gI_sI, gI_sR, gI_sA, gI_sL, gI_sF, gI_sQ, gI_sG, gI_sN, gR_sI, gR_sR, gR_sA, gR_sL, gR_sF, gR_sQ, gR_sG, gR_sN, gA_sI, gA_sR, gA_sA, gA_sL, gA_sF, gA_sQ, gA_sG, gA_sN, gL_sI, gL_sR, gL_sA, gL_sL, gL_sF, gL_sQ, gL_sG, gL_sN, gF_sI, gF_sR, gF_sA, gF_sL, gF_sF, gF_sQ, gF_sG, gF_sN, gQ_sI, gQ_sR, gQ_sA, gQ_sL, gQ_sF, gQ_sQ, gQ_sG, gQ_sN, gN_sI, gN_sR, gN_sA, gN_sL, gN_sF, gN_sQ, gN_sG, gN_sN, gS_sI, gS_sR, gS_sA, gS_sL, gS_sF, gS_sQ, gS_sG, gS_sN, gO_sI, gO_sR, gO_sA, gO_sL, gO_sF, gO_sQ, gO_sN, isR_ref, isR_null, isR_rf, isR2_ref, isR2_null, isR2_rf, am_k_int, am_k_ref, am_k_null, am_k_rf, am_k_none, am_k_long, am_k_double, rf_some, rf_none, KT_ret, KT_void, XP_ap, true_and, and_true, Nat.reduceAdd, Nat.reduceEqDiff, reduceIte, if_true, if_false, eq_self, true_or, or_true, forall_const, not_true_eq_false, not_false_eq_true, List.set_cons_zero, List.set_cons_succ]
  exact hQ
theorem kO_T (h : isT D a) : kO D 5 (.ref a) := by
  obtain ⟨srt, one, two, cp, lv, st, ht⟩ := h
  have hi := ht.hi
  refine .inr ⟨a, 2, [.ref srt, va_rf one, va_rf two, va_rf cp, .int lv, .int st], rfl, ?_, rfl⟩
  unfold TY gO at ht
  show (if isRec a = true then tC D a else gG D a) = _
  rw [if_neg (by rw [hi]; decide)]
  rw [if_neg (by rw [hi]; decide)] at ht
  exact ht
/-- a type is kept -/
theorem f_keep {j : Nat} (hd : 1 ≤ d) (hj : gI D 138 = i32 j) (hj2 : j < 240) (ha : isT D a) (hQ : Q (.inl (some (.ref a))) (toH (sQ (sI D 138 (i32 (j + 1))) 137 j (some a)))) : AC d 59 [.ref 25, .ref a] (toH D) Q := by
  refine AC.pos hd fun d' hd' => ?_
  rw [e59 rfl]
  have h1 : (i32 j).toNatClampNeg = j := i32_nat (by omega)
  have h2 : vp_in (i32 j) 240 = True := eq_true ((i32_in (by omega)).mpr hj2)
  simp only [x59_0, x59_1, x59_4, x59_5, x59_6, x59_9, x59_10, x59_11, x59_12, x59_15, x59_16, x59_16a, x59_16n, x59_17, x59_18, gI_sI, gI_sR, gI_sA, gI_sL, gI_sF, gI_sQ, gI_sG, gI_sN, gR_sI, gR_sR, gR_sA, gR_sL, gR_sF, gR_sQ, gR_sG, gR_sN, gA_sI, gA_sR, gA_sA, gA_sL, gA_sF, gA_sQ, gA_sG, gA_sN, gL_sI, gL_sR, gL_sA, gL_sL, gL_sF, gL_sQ, gL_sG, gL_sN, gF_sI, gF_sR, gF_sA, gF_sL, gF_sF, gF_sQ, gF_sG, gF_sN, gQ_sI, gQ_sR, gQ_sA, gQ_sL, gQ_sF, gQ_sQ, gQ_sG, gQ_sN, gN_sI, gN_sR, gN_sA, gN_sL, gN_sF, gN_sQ, gN_sG, gN_sN, gS_sI, gS_sR, gS_sA, gS_sL, gS_sF, gS_sQ, gS_sG, gS_sN, gO_sI, gO_sR, gO_sA, gO_sL, gO_sF, gO_sQ, gO_sN, isR_ref, isR_null, isR_rf, isR2_ref, isR2_null, isR2_rf, am_k_int, am_k_ref, am_k_null, am_k_rf, am_k_none, am_k_long, am_k_double, rf_some, rf_none, KT_ret, KT_void, XP_ap, true_and, and_true, Nat.reduceAdd, Nat.reduceEqDiff, reduceIte, if_true, if_false, eq_self, true_or, or_true, forall_const, not_true_eq_false, not_false_eq_true, hj, h1, h2]
  rw [i32_add1]
  exact ⟨kO_T (D := sI D 138 (i32 (j + 1))) ha, hQ⟩
end TGG
