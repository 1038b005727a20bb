/-! FunDesk: unify -/
set_option maxRecDepth 100000
section TEE
variable {d : Nat} {D D' D'' : sS} {Q : am_O → am_H → Prop} {a b c l srt N v x y : Nat} {G : tG} {tm tm' : Nat → tE} {ρ : Nat → Nat} {one two cp r t : Option Nat} {lv st : Int32} {L L' L'' : Nat → Int32} {V : Nat → tE}
theorem RL.var (h : RL D tm x srt one two) (he : tm x = .var (v + 3)) (hx : tm v = .var (v + 3)) : srt = 0 ∧ one = none ∧ x = v := by
  rcases h with ⟨e1, e2, e3⟩ | ⟨e1, e3⟩ | ⟨e1, e3⟩ | ⟨e1, e3⟩ | ⟨e1, b, _, _, e3⟩ | ⟨e1, b, c, _, _, _, _, e3⟩
  · rw [e3] at he
    exact ⟨e1, e2, Nat.add_right_cancel (show x + 3 = v + 3 from Lean.Grind.CommRing.Expr.var.inj he)⟩
  · rw [e3] at he; exact absurd (show 0 = v + 3 from Lean.Grind.CommRing.Expr.var.inj he) (by omega)
  · rw [e3] at he; exact absurd (show 1 = v + 3 from Lean.Grind.CommRing.Expr.var.inj he) (by omega)
  · rw [e3] at he; exact absurd (show 2 = v + 3 from Lean.Grind.CommRing.Expr.var.inj he) (by omega)
  · rw [e3] at he; cases he
  · rw [e3] at he; cases he
/-- the other way round -/
theorem u_swap (hU : UQ D (82 + gN D) tm L a b Q) (hH : TH D G tm ρ) (hL : LV D L) (hp : isT D x) (hq : isT D y) (hxv : tm x = .var (x + 3)) (hne : ¬ tm x = tm y) (ha : a < 82 + gN D) (hb : b < 82 + gN D) (hw : ty_w (tm y) ≤ 80) (hd : 86 ≤ d) (hcap : capok D 6)
    (hab : (tm a = tm x ∧ tm b = tm y) ∨ (tm a = tm y ∧ tm b = tm x)) (hng : ¬ L x = 1000) (hnt : ∀ u, ty_h u (tm y) → ¬ L u = 1000) :
    AC d 54 [.ref x, .ref y] (toH D) Q := by
  refine AC.pos hd fun d' hd' => ?_
  rw [e54 rfl rfl]
  simp only [x54_0, x54_1, x54_4, x54_5, x54_6, x54_9, x54_10, x54_11, x54_12, x54_15, x54_16, x54_17, x54_20, x54_21, x54_24, x54_25, x54_28, x54_31, x54_34, x54_35, x54_38, x54_41, x54_44, x54_45, x54_46, x54_49, x54_50, x54_51, x54_54, x54_57, x54_60, x54_61, x54_62, x54_65, x54_68, x54_76, x54_77, x54_78, x54_78a, x54_78n, x54_81, x54_82, x54_83, x54_86, x54_87, x54_90, x54_93, x54_101, x54_102, x54_105, x54_108, x54_111, x54_112, x54_115, x54_118, x54_121, x54_122, x54_125, x54_126, x54_129, x54_132, x54_133, x54_136, x54_139, x54_142, x54_143, x54_146, x54_147, x54_150, x54_153, gI_sI, gI_sR, gI_sA, gI_sL, gI_sF, gI_sQ, gI_sG, gI_sN, gR_sI, gR_sR, gR_sA, gR_sL, gR_sF, gR_sQ, gR_sG, gR_sN, gA_sI, gA_sR, gA_sA, gA_sL, gA_sF, gA_sQ, gA_sG, gA_sN, gL_sI, gL_sR, gL_sA, gL_sL, gL_sF, gL_sQ, gL_sG, gL_sN, gF_sI, gF_sR, gF_sA, gF_sL, gF_sF, gF_sQ, gF_sG, gF_sN, gQ_sI, gQ_sR, gQ_sA, gQ_sL, gQ_sF, gQ_sQ, gQ_sG, gQ_sN, gN_sI, gN_sR, gN_sA, gN_sL, gN_sF, gN_sQ, gN_sG, gN_sN, gS_sI, gS_sR, gS_sA, gS_sL, gS_sF, gS_sQ, gS_sG, gS_sN, gO_sI, gO_sR, gO_sA, gO_sL, gO_sF, gO_sQ, gO_sN, isR_ref, isR_null, isR_rf, isR2_ref, isR2_null, isR2_rf, am_k_int, am_k_ref, am_k_null, am_k_rf, am_k_none, am_k_long, am_k_double, rf_some, rf_none, KT_ret, KT_void, XP_ap, true_and, and_true, Nat.reduceAdd, Nat.reduceEqDiff, reduceIte, if_true, if_false, eq_self, true_or, or_true, forall_const, not_true_eq_false, not_false_eq_true]
  refine ⟨isT.co hp, f_real hH hp (by omega) fun r srt one two cp lv st ht hr hRL => ?_⟩
  obtain ⟨rfl, rfl, rfl⟩ := hRL.var (hr.trans hxv) hxv
  simp only [x54_0, x54_1, x54_4, x54_5, x54_6, x54_9, x54_10, x54_11, x54_12, x54_15, x54_16, x54_17, x54_20, x54_21, x54_24, x54_25, x54_28, x54_31, x54_34, x54_35, x54_38, x54_41, x54_44, x54_45, x54_46, x54_49, x54_50, x54_51, x54_54, x54_57, x54_60, x54_61, x54_62, x54_65, x54_68, x54_76, x54_77, x54_78, x54_78a, x54_78n, x54_81, x54_82, x54_83, x54_86, x54_87, x54_90, x54_93, x54_101, x54_102, x54_105, x54_108, x54_111, x54_112, x54_115, x54_118, x54_121, x54_122, x54_125, x54_126, x54_129, x54_132, x54_133, x54_136, x54_139, x54_142, x54_143, x54_146, x54_147, x54_150, x54_153, gI_sI, gI_sR, gI_sA, gI_sL, gI_sF, gI_sQ, gI_sG, gI_sN, gR_sI, gR_sR, gR_sA, gR_sL, gR_sF, gR_sQ, gR_sG, gR_sN, gA_sI, gA_sR, gA_sA, gA_sL, gA_sF, gA_sQ, gA_sG, gA_sN, gL_sI, gL_sR, gL_sA, gL_sL, gL_sF, gL_sQ, gL_sG, gL_sN, gF_sI, gF_sR, gF_sA, gF_sL, gF_sF, gF_sQ, gF_sG, gF_sN, gQ_sI, gQ_sR, gQ_sA, gQ_sL, gQ_sF, gQ_sQ, gQ_sG, gQ_sN, gN_sI, gN_sR, gN_sA, gN_sL, gN_sF, gN_sQ, gN_sG, gN_sN, gS_sI, gS_sR, gS_sA, gS_sL, gS_sF, gS_sQ, gS_sG, gS_sN, gO_sI, gO_sR, gO_sA, gO_sL, gO_sF, gO_sQ, gO_sN, isR_ref, isR_null, isR_rf, isR2_ref, isR2_null, isR2_rf, am_k_int, am_k_ref, am_k_null, am_k_rf, am_k_none, am_k_long, am_k_double, rf_some, rf_none, KT_ret, KT_void, XP_ap, true_and, and_true, Nat.reduceAdd, Nat.reduceEqDiff, reduceIte, if_true, if_false, eq_self, true_or, or_true, forall_const, not_true_eq_false, not_false_eq_true]
  refine ⟨isT.co hq, f_real hH hq (by omega) fun r' srt' one' two' cp' lv' st' ht' hr' hRL' => ?_⟩
  have hrr : ¬ r = r' := fun z => hne (by rw [z]; exact hr')
  have hf0 : ∀ K, fO D r 2 0 K ↔ K (.ref 0) := fun K => fO_of ht rfl rfl
  simp only [x54_0, x54_1, x54_4, x54_5, x54_6, x54_9, x54_10, x54_11, x54_12, x54_15, x54_16, x54_17, x54_20, x54_21, x54_24, x54_25, x54_28, x54_31, x54_34, x54_35, x54_38, x54_41, x54_44, x54_45, x54_46, x54_49, x54_50, x54_51, x54_54, x54_57, x54_61, x54_62, x54_65, x54_68, x54_76, x54_77, x54_78, x54_78a, x54_78n, x54_81, x54_82, x54_83, x54_86, x54_87, x54_90, x54_93, x54_101, x54_102, x54_105, x54_108, x54_111, x54_112, x54_115, x54_118, x54_121, x54_122, x54_125, x54_126, x54_129, x54_132, x54_133, x54_136, x54_139, x54_142, x54_143, x54_146, x54_147, x54_150, x54_153, gI_sI, gI_sR, gI_sA, gI_sL, gI_sF, gI_sQ, gI_sG, gI_sN, gR_sI, gR_sR, gR_sA, gR_sL, gR_sF, gR_sQ, gR_sG, gR_sN, gA_sI, gA_sR, gA_sA, gA_sL, gA_sF, gA_sQ, gA_sG, gA_sN, gL_sI, gL_sR, gL_sA, gL_sL, gL_sF, gL_sQ, gL_sG, gL_sN, gF_sI, gF_sR, gF_sA, gF_sL, gF_sF, gF_sQ, gF_sG, gF_sN, gQ_sI, gQ_sR, gQ_sA, gQ_sL, gQ_sF, gQ_sQ, gQ_sG, gQ_sN, gN_sI, gN_sR, gN_sA, gN_sL, gN_sF, gN_sQ, gN_sG, gN_sN, gS_sI, gS_sR, gS_sA, gS_sL, gS_sF, gS_sQ, gS_sG, gS_sN, gO_sI, gO_sR, gO_sA, gO_sL, gO_sF, gO_sQ, gO_sN, isR_ref, isR_null, isR_rf, isR2_ref, isR2_null, isR2_rf, am_k_int, am_k_ref, am_k_null, am_k_rf, am_k_none, am_k_long, am_k_double, rf_some, rf_none, KT_ret, KT_void, XP_ap, true_and, and_true, Nat.reduceAdd, Nat.reduceEqDiff, reduceIte, if_true, if_false, eq_self, true_or, or_true, forall_const, not_true_eq_false, not_false_eq_true, Value.ref.injEq, eq_false hrr, false_imp_iff, not_false_eq_true, true_imp_iff]
  have w1 : ty_w (tm r) ≤ 80 := by rw [hxv]; show 1 ≤ 80; omega
  refine f_fit hH hp (by omega) hcap (fun _ => ?_) (fun z => absurd w1 z)
  simp only [x54_0, x54_1, x54_4, x54_5, x54_6, x54_9, x54_10, x54_11, x54_12, x54_15, x54_16, x54_17, x54_20, x54_21, x54_24, x54_25, x54_28, x54_31, x54_34, x54_35, x54_38, x54_41, x54_44, x54_45, x54_46, x54_49, x54_50, x54_51, x54_54, x54_57, x54_61, x54_62, x54_65, x54_68, x54_76, x54_77, x54_78, x54_78a, x54_78n, x54_81, x54_82, x54_83, x54_86, x54_87, x54_90, x54_93, x54_101, x54_102, x54_105, x54_108, x54_111, x54_112, x54_115, x54_118, x54_121, x54_122, x54_125, x54_126, x54_129, x54_132, x54_133, x54_136, x54_139, x54_142, x54_143, x54_146, x54_147, x54_150, x54_153, gI_sI, gI_sR, gI_sA, gI_sL, gI_sF, gI_sQ, gI_sG, gI_sN, gR_sI, gR_sR, gR_sA, gR_sL, gR_sF, gR_sQ, gR_sG, gR_sN, gA_sI, gA_sR, gA_sA, gA_sL, gA_sF, gA_sQ, gA_sG, gA_sN, gL_sI, gL_sR, gL_sA, gL_sL, gL_sF, gL_sQ, gL_sG, gL_sN, gF_sI, gF_sR, gF_sA, gF_sL, gF_sF, gF_sQ, gF_sG, gF_sN, gQ_sI, gQ_sR, gQ_sA, gQ_sL, gQ_sF, gQ_sQ, gQ_sG, gQ_sN, gN_sI, gN_sR, gN_sA, gN_sL, gN_sF, gN_sQ, gN_sG, gN_sN, gS_sI, gS_sR, gS_sA, gS_sL, gS_sF, gS_sQ, gS_sG, gS_sN, gO_sI, gO_sR, gO_sA, gO_sL, gO_sF, gO_sQ, gO_sN, isR_ref, isR_null, isR_rf, isR2_ref, isR2_null, isR2_rf, am_k_int, am_k_ref, am_k_null, am_k_rf, am_k_none, am_k_long, am_k_double, rf_some, rf_none, KT_ret, KT_void, XP_ap, true_and, and_true, Nat.reduceAdd, Nat.reduceEqDiff, reduceIte, if_true, if_false, eq_self, true_or, or_true, forall_const, not_true_eq_false, not_false_eq_true]
  refine f_fit hH ⟨_, _, _, _, _, _, ht'⟩ (by omega) hcap (fun _ => ?_) (fun z => absurd (by rw [hr']; exact hw) z)
  simp only [x54_0, x54_1, x54_4, x54_5, x54_6, x54_9, x54_10, x54_11, x54_12, x54_15, x54_16, x54_17, x54_20, x54_21, x54_24, x54_25, x54_28, x54_31, x54_34, x54_35, x54_38, x54_41, x54_44, x54_45, x54_46, x54_49, x54_50, x54_51, x54_54, x54_57, x54_61, x54_62, x54_65, x54_68, x54_76, x54_77, x54_78, x54_78a, x54_78n, x54_81, x54_82, x54_83, x54_86, x54_87, x54_90, x54_93, x54_101, x54_102, x54_105, x54_108, x54_111, x54_112, x54_115, x54_118, x54_121, x54_122, x54_125, x54_126, x54_129, x54_132, x54_133, x54_136, x54_139, x54_142, x54_143, x54_146, x54_147, x54_150, x54_153, gI_sI, gI_sR, gI_sA, gI_sL, gI_sF, gI_sQ, gI_sG, gI_sN, gR_sI, gR_sR, gR_sA, gR_sL, gR_sF, gR_sQ, gR_sG, gR_sN, gA_sI, gA_sR, gA_sA, gA_sL, gA_sF, gA_sQ, gA_sG, gA_sN, gL_sI, gL_sR, gL_sA, gL_sL, gL_sF, gL_sQ, gL_sG, gL_sN, gF_sI, gF_sR, gF_sA, gF_sL, gF_sF, gF_sQ, gF_sG, gF_sN, gQ_sI, gQ_sR, gQ_sA, gQ_sL, gQ_sF, gQ_sQ, gQ_sG, gQ_sN, gN_sI, gN_sR, gN_sA, gN_sL, gN_sF, gN_sQ, gN_sG, gN_sN, gS_sI, gS_sR, gS_sA, gS_sL, gS_sF, gS_sQ, gS_sG, gS_sN, gO_sI, gO_sR, gO_sA, gO_sL, gO_sF, gO_sQ, gO_sN, isR_ref, isR_null, isR_rf, isR2_ref, isR2_null, isR2_rf, am_k_int, am_k_ref, am_k_null, am_k_rf, am_k_none, am_k_long, am_k_double, rf_some, rf_none, KT_ret, KT_void, XP_ap, true_and, and_true, Nat.reduceAdd, Nat.reduceEqDiff, reduceIte, if_true, if_false, eq_self, true_or, or_true, forall_const, not_true_eq_false, not_false_eq_true, hf0, Value.ref.injEq, false_imp_iff, not_false_eq_true, true_imp_iff]
  refine u_var (a := a) (b := b) hU hH hL ht ⟨_, _, _, _, _, _, ht'⟩ (hH.n6 ht' hRL'.z).1 hrr ha hb (by rw [hr']; exact hw) (by omega) hcap (by rw [hr']; exact hab) hng (by rw [hr']; exact hnt)
theorem ty_rg (h1 : RL D tm x srt one two) {srt' : Nat} {one' two' : Option Nat} (h2 : RL D tm y srt' one' two') (hs : ¬ srt = srt') (h0 : ¬ srt = 0) (h0' : ¬ srt' = 0) : ¬ ty_s V (tm x) = ty_s V (tm y) := by
  rcases h1 with ⟨e1, _⟩ | ⟨e1, e2⟩ | ⟨e1, e2⟩ | ⟨e1, e2⟩ | ⟨e1, _, _, _, e2⟩ | ⟨e1, _, _, _, _, _, _, e2⟩
  · exact absurd e1 h0
  all_goals
    rcases h2 with ⟨g1, _⟩ | ⟨g1, g2⟩ | ⟨g1, g2⟩ | ⟨g1, g2⟩ | ⟨g1, _, _, _, g2⟩ | ⟨g1, _, _, _, _, _, _, g2⟩
    · exact absurd g1 h0'
    all_goals
      first
      | exact absurd (e1.trans g1.symm) hs
      | (rw [e2, g2]; intro h; cases h)
theorem UQ.mono {K : am_O → am_H → Prop} (h : UQ D N tm L a b Q) (h1 : ∀ D', Q (.inl none) (toH D') → K (.inl none) (toH D')) (h2 : ∀ x D', Q (.inr (x, 25)) (toH D') → K (.inr (x, 25)) (toH D')) : UQ D N tm L a b K := ⟨fun D' G' tm' ρ' L' a1 a2 a3 a4 a5 a6 a7 => h1 _ (h.1 D' G' tm' ρ' L' a1 a2 a3 a4 a5 a6 a7), fun hn D' x G' tm' ρ' a1 a2 => h2 _ _ (h.2 hn D' x G' tm' ρ' a1 a2)⟩
theorem ty_ht1 {u : tE} : 1 ≤ ty_ht u := by
  cases u <;> simp only [ty_ht] <;> omega
theorem flt_lt {X : List Nat} (h : v ∈ X) : (X.filter fun w => decide (¬ w = v)).length < X.length := by
  induction X with
  | nil => cases h
  | cons z X ih =>
    rw [List.filter_cons]
    have hle : (X.filter fun w => decide (¬ w = v)).length ≤ X.length := List.length_filter_le _ _
    by_cases hz : z = v
    · rw [if_neg (by simp [hz])]
      show _ < X.length + 1
      omega
    · have := ih ((List.mem_cons.mp h).resolve_left fun e => hz e.symm)
      split
      · show _ + 1 < X.length + 1; omega
      · show _ < X.length + 1; omega
theorem f_uni : ∀ (u h : Nat) (X : List Nat) (a b d : Nat) (D : sS) (G : tG) (tm : Nat → tE) (ρ : Nat → Nat) (L : Nat → Int32) (Q : am_O → am_H → Prop), TH D G tm ρ → LV D L → isT D a → isT D b → (∀ x, ty_h x (tm a) ∨ ty_h x (tm b) → x ∈ X) → X.length ≤ u → (80 < ty_w (tm a) ∨ ty_ht (tm a) ≤ h) → h ≤ 41 → 42 * u + h + 90 ≤ d → capok D 6 → (∀ x, ty_h x (tm a) ∨ ty_h x (tm b) → ¬ L x = 1000) → UQ D (82 + gN D) tm L a b Q → AC d 54 [.ref a, .ref b] (toH D) Q := by
  intro u
  induction u using Nat.strongRecOn with
  | ind u ihu =>
  intro h
  induction h with
  | zero =>
    intro X a b d D G tm ρ L Q hH hL ha hb hX hu hh h41 hd hcap hng hU
    have hw80 : 80 < ty_w (tm a) := hh.resolve_right (fun z => by have := ty_ht1 (u := tm a); omega)
    have hal := hH.lt ha
    have hbl := hH.lt hb
    refine AC.pos (k := 42 * u + 89) (by omega) fun d' hd' => ?_
    rw [e54 rfl rfl]
    simp only [x54_0, x54_1, x54_4, x54_5, x54_6, x54_9, x54_10, x54_11, x54_12, x54_15, x54_16, x54_17, x54_20, x54_21, x54_24, x54_25, x54_28, x54_31, x54_34, x54_35, x54_38, x54_41, x54_44, x54_45, x54_46, x54_49, x54_50, x54_51, x54_54, x54_57, x54_60, x54_61, x54_62, x54_65, x54_68, x54_76, x54_77, x54_78, x54_78a, x54_78n, x54_81, x54_82, x54_83, x54_86, x54_87, x54_90, x54_93, x54_101, x54_102, x54_105, x54_108, x54_111, x54_112, x54_115, x54_118, x54_121, x54_122, x54_125, x54_126, x54_129, x54_132, x54_133, x54_136, x54_139, x54_142, x54_143, x54_146, x54_147, x54_150, x54_153, gI_sI, gI_sR, gI_sA, gI_sL, gI_sF, gI_sQ, gI_sG, gI_sN, gR_sI, gR_sR, gR_sA, gR_sL, gR_sF, gR_sQ, gR_sG, gR_sN, gA_sI, gA_sR, gA_sA, gA_sL, gA_sF, gA_sQ, gA_sG, gA_sN, gL_sI, gL_sR, gL_sA, gL_sL, gL_sF, gL_sQ, gL_sG, gL_sN, gF_sI, gF_sR, gF_sA, gF_sL, gF_sF, gF_sQ, gF_sG, gF_sN, gQ_sI, gQ_sR, gQ_sA, gQ_sL, gQ_sF, gQ_sQ, gQ_sG, gQ_sN, gN_sI, gN_sR, gN_sA, gN_sL, gN_sF, gN_sQ, gN_sG, gN_sN, gS_sI, gS_sR, gS_sA, gS_sL, gS_sF, gS_sQ, gS_sG, gS_sN, gO_sI, gO_sR, gO_sA, gO_sL, gO_sF, gO_sQ, gO_sN, isR_ref, isR_null, isR_rf, isR2_ref, isR2_null, isR2_rf, am_k_int, am_k_ref, am_k_null, am_k_rf, am_k_none, am_k_long, am_k_double, rf_some, rf_none, KT_ret, KT_void, XP_ap, true_and, and_true, Nat.reduceAdd, Nat.reduceEqDiff, reduceIte, if_true, if_false, eq_self, true_or, or_true, forall_const, not_true_eq_false, not_false_eq_true]
    refine ⟨isT.co ha, f_real hH ha (by omega) fun x sx ox tx cx lx qx hTx hrx hRx => ?_⟩
    simp only [x54_0, x54_1, x54_4, x54_5, x54_6, x54_9, x54_10, x54_11, x54_12, x54_15, x54_16, x54_17, x54_20, x54_21, x54_24, x54_25, x54_28, x54_31, x54_34, x54_35, x54_38, x54_41, x54_44, x54_45, x54_46, x54_49, x54_50, x54_51, x54_54, x54_57, x54_60, x54_61, x54_62, x54_65, x54_68, x54_76, x54_77, x54_78, x54_78a, x54_78n, x54_81, x54_82, x54_83, x54_86, x54_87, x54_90, x54_93, x54_101, x54_102, x54_105, x54_108, x54_111, x54_112, x54_115, x54_118, x54_121, x54_122, x54_125, x54_126, x54_129, x54_132, x54_133, x54_136, x54_139, x54_142, x54_143, x54_146, x54_147, x54_150, x54_153, gI_sI, gI_sR, gI_sA, gI_sL, gI_sF, gI_sQ, gI_sG, gI_sN, gR_sI, gR_sR, gR_sA, gR_sL, gR_sF, gR_sQ, gR_sG, gR_sN, gA_sI, gA_sR, gA_sA, gA_sL, gA_sF, gA_sQ, gA_sG, gA_sN, gL_sI, gL_sR, gL_sA, gL_sL, gL_sF, gL_sQ, gL_sG, gL_sN, gF_sI, gF_sR, gF_sA, gF_sL, gF_sF, gF_sQ, gF_sG, gF_sN, gQ_sI, gQ_sR, gQ_sA, gQ_sL, gQ_sF, gQ_sQ, gQ_sG, gQ_sN, gN_sI, gN_sR, gN_sA, gN_sL, gN_sF, gN_sQ, gN_sG, gN_sN, gS_sI, gS_sR, gS_sA, gS_sL, gS_sF, gS_sQ, gS_sG, gS_sN, gO_sI, gO_sR, gO_sA, gO_sL, gO_sF, gO_sQ, gO_sN, isR_ref, isR_null, isR_rf, isR2_ref, isR2_null, isR2_rf, am_k_int, am_k_ref, am_k_null, am_k_rf, am_k_none, am_k_long, am_k_double, rf_some, rf_none, KT_ret, KT_void, XP_ap, true_and, and_true, Nat.reduceAdd, Nat.reduceEqDiff, reduceIte, if_true, if_false, eq_self, true_or, or_true, forall_const, not_true_eq_false, not_false_eq_true]
    refine ⟨isT.co hb, f_real hH hb (by omega) fun y sy oy ty cy ly qy hTy hry hRy => ?_⟩
    simp only [x54_0, x54_1, x54_4, x54_5, x54_6, x54_9, x54_10, x54_11, x54_12, x54_15, x54_16, x54_17, x54_20, x54_21, x54_24, x54_25, x54_28, x54_31, x54_34, x54_35, x54_38, x54_41, x54_44, x54_45, x54_46, x54_49, x54_50, x54_51, x54_54, x54_57, x54_61, x54_62, x54_65, x54_68, x54_76, x54_77, x54_78, x54_78a, x54_78n, x54_81, x54_82, x54_83, x54_86, x54_87, x54_90, x54_93, x54_101, x54_102, x54_105, x54_108, x54_111, x54_112, x54_115, x54_118, x54_121, x54_122, x54_125, x54_126, x54_129, x54_132, x54_133, x54_136, x54_139, x54_142, x54_143, x54_146, x54_147, x54_150, x54_153, gI_sI, gI_sR, gI_sA, gI_sL, gI_sF, gI_sQ, gI_sG, gI_sN, gR_sI, gR_sR, gR_sA, gR_sL, gR_sF, gR_sQ, gR_sG, gR_sN, gA_sI, gA_sR, gA_sA, gA_sL, gA_sF, gA_sQ, gA_sG, gA_sN, gL_sI, gL_sR, gL_sA, gL_sL, gL_sF, gL_sQ, gL_sG, gL_sN, gF_sI, gF_sR, gF_sA, gF_sL, gF_sF, gF_sQ, gF_sG, gF_sN, gQ_sI, gQ_sR, gQ_sA, gQ_sL, gQ_sF, gQ_sQ, gQ_sG, gQ_sN, gN_sI, gN_sR, gN_sA, gN_sL, gN_sF, gN_sQ, gN_sG, gN_sN, gS_sI, gS_sR, gS_sA, gS_sL, gS_sF, gS_sQ, gS_sG, gS_sN, gO_sI, gO_sR, gO_sA, gO_sL, gO_sF, gO_sQ, gO_sN, isR_ref, isR_null, isR_rf, isR2_ref, isR2_null, isR2_rf, am_k_int, am_k_ref, am_k_null, am_k_rf, am_k_none, am_k_long, am_k_double, rf_some, rf_none, KT_ret, KT_void, XP_ap, true_and, and_true, Nat.reduceAdd, Nat.reduceEqDiff, reduceIte, if_true, if_false, eq_self, true_or, or_true, forall_const, not_true_eq_false, not_false_eq_true, Value.ref.injEq]
    refine ⟨fun hxy => ?_, fun hxy => ?_⟩
    · refine f_fit hH ⟨_, _, _, _, _, _, hTx⟩ (by omega) hcap (fun wx => ?_) (fun wx => ?_)
      · rw [hrx] at wx; omega
      · rw [KT_thr rfl]
        refine hU.bad (fun V hV hab hle => wx ?_) hH UF.refl
        rw [hrx]
        have : ty_w (tm a) ≤ ty_w (V a) := by rw [hV a hal]; exact ty_w_s
        omega
    · subst hxy
      exact hU.same hH hL hal hbl (hrx.symm.trans hry)
  | succ h ihh =>
    intro X a b d D G tm ρ L Q hH hL ha hb hX hu hh h41 hd hcap hng hU
    have hal := hH.lt ha
    have hbl := hH.lt hb
    refine AC.pos (k := 42 * u + h + 90) (by omega) fun d' hd' => ?_
    rw [e54 rfl rfl]
    simp only [x54_0, x54_1, x54_4, x54_5, x54_6, x54_9, x54_10, x54_11, x54_12, x54_15, x54_16, x54_17, x54_20, x54_21, x54_24, x54_25, x54_28, x54_31, x54_34, x54_35, x54_38, x54_41, x54_44, x54_45, x54_46, x54_49, x54_50, x54_51, x54_54, x54_57, x54_60, x54_61, x54_62, x54_65, x54_68, x54_76, x54_77, x54_78, x54_78a, x54_78n, x54_81, x54_82, x54_83, x54_86, x54_87, x54_90, x54_93, x54_101, x54_102, x54_105, x54_108, x54_111, x54_112, x54_115, x54_118, x54_121, x54_122, x54_125, x54_126, x54_129, x54_132, x54_133, x54_136, x54_139, x54_142, x54_143, x54_146, x54_147, x54_150, x54_153, gI_sI, gI_sR, gI_sA, gI_sL, gI_sF, gI_sQ, gI_sG, gI_sN, gR_sI, gR_sR, gR_sA, gR_sL, gR_sF, gR_sQ, gR_sG, gR_sN, gA_sI, gA_sR, gA_sA, gA_sL, gA_sF, gA_sQ, gA_sG, gA_sN, gL_sI, gL_sR, gL_sA, gL_sL, gL_sF, gL_sQ, gL_sG, gL_sN, gF_sI, gF_sR, gF_sA, gF_sL, gF_sF, gF_sQ, gF_sG, gF_sN, gQ_sI, gQ_sR, gQ_sA, gQ_sL, gQ_sF, gQ_sQ, gQ_sG, gQ_sN, gN_sI, gN_sR, gN_sA, gN_sL, gN_sF, gN_sQ, gN_sG, gN_sN, gS_sI, gS_sR, gS_sA, gS_sL, gS_sF, gS_sQ, gS_sG, gS_sN, gO_sI, gO_sR, gO_sA, gO_sL, gO_sF, gO_sQ, gO_sN, isR_ref, isR_null, isR_rf, isR2_ref, isR2_null, isR2_rf, am_k_int, am_k_ref, am_k_null, am_k_rf, am_k_none, am_k_long, am_k_double, rf_some, rf_none, KT_ret, KT_void, XP_ap, true_and, and_true, Nat.reduceAdd, Nat.reduceEqDiff, reduceIte, if_true, if_false, eq_self, true_or, or_true, forall_const, not_true_eq_false, not_false_eq_true]
    refine ⟨isT.co ha, f_real hH ha (by omega) fun x sx ox tx cx lx qx hTx hrx hRx => ?_⟩
    simp only [x54_0, x54_1, x54_4, x54_5, x54_6, x54_9, x54_10, x54_11, x54_12, x54_15, x54_16, x54_17, x54_20, x54_21, x54_24, x54_25, x54_28, x54_31, x54_34, x54_35, x54_38, x54_41, x54_44, x54_45, x54_46, x54_49, x54_50, x54_51, x54_54, x54_57, x54_60, x54_61, x54_62, x54_65, x54_68, x54_76, x54_77, x54_78, x54_78a, x54_78n, x54_81, x54_82, x54_83, x54_86, x54_87, x54_90, x54_93, x54_101, x54_102, x54_105, x54_108, x54_111, x54_112, x54_115, x54_118, x54_121, x54_122, x54_125, x54_126, x54_129, x54_132, x54_133, x54_136, x54_139, x54_142, x54_143, x54_146, x54_147, x54_150, x54_153, gI_sI, gI_sR, gI_sA, gI_sL, gI_sF, gI_sQ, gI_sG, gI_sN, gR_sI, gR_sR, gR_sA, gR_sL, gR_sF, gR_sQ, gR_sG, gR_sN, gA_sI, gA_sR, gA_sA, gA_sL, gA_sF, gA_sQ, gA_sG, gA_sN, gL_sI, gL_sR, gL_sA, gL_sL, gL_sF, gL_sQ, gL_sG, gL_sN, gF_sI, gF_sR, gF_sA, gF_sL, gF_sF, gF_sQ, gF_sG, gF_sN, gQ_sI, gQ_sR, gQ_sA, gQ_sL, gQ_sF, gQ_sQ, gQ_sG, gQ_sN, gN_sI, gN_sR, gN_sA, gN_sL, gN_sF, gN_sQ, gN_sG, gN_sN, gS_sI, gS_sR, gS_sA, gS_sL, gS_sF, gS_sQ, gS_sG, gS_sN, gO_sI, gO_sR, gO_sA, gO_sL, gO_sF, gO_sQ, gO_sN, isR_ref, isR_null, isR_rf, isR2_ref, isR2_null, isR2_rf, am_k_int, am_k_ref, am_k_null, am_k_rf, am_k_none, am_k_long, am_k_double, rf_some, rf_none, KT_ret, KT_void, XP_ap, true_and, and_true, Nat.reduceAdd, Nat.reduceEqDiff, reduceIte, if_true, if_false, eq_self, true_or, or_true, forall_const, not_true_eq_false, not_false_eq_true]
    refine ⟨isT.co hb, f_real hH hb (by omega) fun y sy oy ty cy ly qy hTy hry hRy => ?_⟩
    have hX0 : ∀ K, fO D x 2 0 K ↔ K (.ref sx) := fun K => fO_of hTx rfl rfl
    have hY0 : ∀ K, fO D y 2 0 K ↔ K (.ref sy) := fun K => fO_of hTy rfl rfl
    have hxT : isT D x := ⟨_, _, _, _, _, _, hTx⟩
    have hyT : isT D y := ⟨_, _, _, _, _, _, hTy⟩
    have hVw : ∀ V, VLs tm (82 + gN D) V → ty_w (tm a) ≤ ty_w (V a) ∧ ty_w (tm b) ≤ ty_w (V b) := fun V hV => ⟨by rw [hV a hal]; exact ty_w_s, by rw [hV b hbl]; exact ty_w_s⟩
    simp only [x54_0, x54_1, x54_4, x54_5, x54_6, x54_9, x54_10, x54_11, x54_12, x54_15, x54_16, x54_17, x54_20, x54_21, x54_24, x54_25, x54_28, x54_31, x54_34, x54_35, x54_38, x54_41, x54_44, x54_45, x54_46, x54_49, x54_50, x54_51, x54_54, x54_57, x54_61, x54_62, x54_65, x54_68, x54_76, x54_77, x54_78, x54_78a, x54_78n, x54_81, x54_82, x54_83, x54_86, x54_87, x54_90, x54_93, x54_101, x54_102, x54_105, x54_108, x54_111, x54_112, x54_115, x54_118, x54_121, x54_122, x54_125, x54_126, x54_129, x54_132, x54_133, x54_136, x54_139, x54_142, x54_143, x54_146, x54_147, x54_150, x54_153, gI_sI, gI_sR, gI_sA, gI_sL, gI_sF, gI_sQ, gI_sG, gI_sN, gR_sI, gR_sR, gR_sA, gR_sL, gR_sF, gR_sQ, gR_sG, gR_sN, gA_sI, gA_sR, gA_sA, gA_sL, gA_sF, gA_sQ, gA_sG, gA_sN, gL_sI, gL_sR, gL_sA, gL_sL, gL_sF, gL_sQ, gL_sG, gL_sN, gF_sI, gF_sR, gF_sA, gF_sL, gF_sF, gF_sQ, gF_sG, gF_sN, gQ_sI, gQ_sR, gQ_sA, gQ_sL, gQ_sF, gQ_sQ, gQ_sG, gQ_sN, gN_sI, gN_sR, gN_sA, gN_sL, gN_sF, gN_sQ, gN_sG, gN_sN, gS_sI, gS_sR, gS_sA, gS_sL, gS_sF, gS_sQ, gS_sG, gS_sN, gO_sI, gO_sR, gO_sA, gO_sL, gO_sF, gO_sQ, gO_sN, isR_ref, isR_null, isR_rf, isR2_ref, isR2_null, isR2_rf, am_k_int, am_k_ref, am_k_null, am_k_rf, am_k_none, am_k_long, am_k_double, rf_some, rf_none, KT_ret, KT_void, XP_ap, true_and, and_true, Nat.reduceAdd, Nat.reduceEqDiff, reduceIte, if_true, if_false, eq_self, true_or, or_true, forall_const, not_true_eq_false, not_false_eq_true, Value.ref.injEq]
    refine ⟨fun hxy => ?_, fun hxy => ?_⟩
    · refine f_fit hH hxT (by omega) hcap (fun wx => ?_) (fun wx => ?_)
      rotate_left
      · rw [KT_thr rfl]
        refine hU.bad (fun V hV hab hle => wx ?_) hH UF.refl
        rw [hrx]; exact Nat.le_trans (hVw V hV).1 hle
      simp only [x54_0, x54_1, x54_4, x54_5, x54_6, x54_9, x54_10, x54_11, x54_12, x54_15, x54_16, x54_17, x54_20, x54_21, x54_24, x54_25, x54_28, x54_31, x54_34, x54_35, x54_38, x54_41, x54_44, x54_45, x54_46, x54_49, x54_50, x54_51, x54_54, x54_57, x54_61, x54_62, x54_65, x54_68, x54_76, x54_77, x54_78, x54_78a, x54_78n, x54_81, x54_82, x54_83, x54_86, x54_87, x54_90, x54_93, x54_101, x54_102, x54_105, x54_108, x54_111, x54_112, x54_115, x54_118, x54_121, x54_122, x54_125, x54_126, x54_129, x54_132, x54_133, x54_136, x54_139, x54_142, x54_143, x54_146, x54_147, x54_150, x54_153, gI_sI, gI_sR, gI_sA, gI_sL, gI_sF, gI_sQ, gI_sG, gI_sN, gR_sI, gR_sR, gR_sA, gR_sL, gR_sF, gR_sQ, gR_sG, gR_sN, gA_sI, gA_sR, gA_sA, gA_sL, gA_sF, gA_sQ, gA_sG, gA_sN, gL_sI, gL_sR, gL_sA, gL_sL, gL_sF, gL_sQ, gL_sG, gL_sN, gF_sI, gF_sR, gF_sA, gF_sL, gF_sF, gF_sQ, gF_sG, gF_sN, gQ_sI, gQ_sR, gQ_sA, gQ_sL, gQ_sF, gQ_sQ, gQ_sG, gQ_sN, gN_sI, gN_sR, gN_sA, gN_sL, gN_sF, gN_sQ, gN_sG, gN_sN, gS_sI, gS_sR, gS_sA, gS_sL, gS_sF, gS_sQ, gS_sG, gS_sN, gO_sI, gO_sR, gO_sA, gO_sL, gO_sF, gO_sQ, gO_sN, isR_ref, isR_null, isR_rf, isR2_ref, isR2_null, isR2_rf, am_k_int, am_k_ref, am_k_null, am_k_rf, am_k_none, am_k_long, am_k_double, rf_some, rf_none, KT_ret, KT_void, XP_ap, true_and, and_true, Nat.reduceAdd, Nat.reduceEqDiff, reduceIte, if_true, if_false, eq_self, true_or, or_true, forall_const, not_true_eq_false, not_false_eq_true]
      refine f_fit hH hyT (by omega) hcap (fun wy => ?_) (fun wy => ?_)
      rotate_left
      · rw [KT_thr rfl]
        refine hU.bad (fun V hV hab hle => wy ?_) hH UF.refl
        rw [hry]; rw [hab] at hle; exact Nat.le_trans (hVw V hV).2 hle
      simp only [x54_0, x54_1, x54_4, x54_5, x54_6, x54_9, x54_10, x54_11, x54_12, x54_15, x54_16, x54_17, x54_20, x54_21, x54_24, x54_25, x54_28, x54_31, x54_34, x54_35, x54_38, x54_41, x54_44, x54_45, x54_46, x54_49, x54_50, x54_51, x54_54, x54_57, x54_61, x54_62, x54_65, x54_68, x54_76, x54_77, x54_78, x54_78a, x54_78n, x54_81, x54_83, x54_86, x54_87, x54_90, x54_93, x54_101, x54_102, x54_105, x54_108, x54_111, x54_112, x54_115, x54_118, x54_121, x54_122, x54_125, x54_126, x54_129, x54_132, x54_133, x54_136, x54_139, x54_142, x54_143, x54_146, x54_147, x54_150, x54_153, gI_sI, gI_sR, gI_sA, gI_sL, gI_sF, gI_sQ, gI_sG, gI_sN, gR_sI, gR_sR, gR_sA, gR_sL, gR_sF, gR_sQ, gR_sG, gR_sN, gA_sI, gA_sR, gA_sA, gA_sL, gA_sF, gA_sQ, gA_sG, gA_sN, gL_sI, gL_sR, gL_sA, gL_sL, gL_sF, gL_sQ, gL_sG, gL_sN, gF_sI, gF_sR, gF_sA, gF_sL, gF_sF, gF_sQ, gF_sG, gF_sN, gQ_sI, gQ_sR, gQ_sA, gQ_sL, gQ_sF, gQ_sQ, gQ_sG, gQ_sN, gN_sI, gN_sR, gN_sA, gN_sL, gN_sF, gN_sQ, gN_sG, gN_sN, gS_sI, gS_sR, gS_sA, gS_sL, gS_sF, gS_sQ, gS_sG, gS_sN, gO_sI, gO_sR, gO_sA, gO_sL, gO_sF, gO_sQ, gO_sN, isR_ref, isR_null, isR_rf, isR2_ref, isR2_null, isR2_rf, am_k_int, am_k_ref, am_k_null, am_k_rf, am_k_none, am_k_long, am_k_double, rf_some, rf_none, KT_ret, KT_void, XP_ap, true_and, and_true, Nat.reduceAdd, Nat.reduceEqDiff, reduceIte, if_true, if_false, eq_self, true_or, or_true, forall_const, not_true_eq_false, not_false_eq_true, hX0, hY0, Value.ref.injEq]
      have vx : sx = 0 → XW 54 d' Q 60 [some (.ref a), some (.ref b), some (.ref x), some (.ref y)] [] (toH D) := by
        intro hs
        have h1 := hRx.z hs
        subst hs h1
        exact u_var (a := a) (b := b) hU hH hL hTx hyT (hH.n6 hTy hRy.z).1 hxy hal hbl wy (by omega) hcap (.inl ⟨hrx.symm, hry.symm⟩) (hng x (.inl (by
          rw [← hrx, (hH.1 x (hH.lt hxT)).2.1 ((hH.n6 hTx (fun _ => rfl)).2 rfl)]; rfl))) (fun u hu => hng u (.inr (by rw [← hry]; exact hu)))
      have vy : ¬ sx = 0 → sy = 0 → AC d' 54 [.ref y, .ref x] (toH D) (KT 54 d' Q 46 3 [some (.ref a), some (.ref b), some (.ref x), some (.ref y)] []) := by
        intro hsx hs
        have h1 := hRy.z hs
        subst hs h1
        have hyv : tm y = .var (y + 3) := (hH.1 y (hH.lt hyT)).2.1 ((hH.n6 hTy (fun _ => rfl)).2 rfl)
        refine u_swap (a := a) (b := b) (hU.mono (fun D' q => ?_) (fun x' D' q => ?_)) hH hL hyT hxT hyv (fun z => hsx (hRx.var (z.symm.trans hyv) hyv).1) hal hbl wx (by omega) hcap (.inr ⟨hrx.symm, hry.symm⟩) (hng y (.inr (by rw [← hry, hyv]; rfl))) (fun u hu => hng u (.inl (by rw [← hrx]; exact hu)))
        · simp only [x54_0, x54_1, x54_4, x54_5, x54_6, x54_9, x54_10, x54_11, x54_12, x54_15, x54_16, x54_17, x54_20, x54_21, x54_24, x54_25, x54_28, x54_31, x54_34, x54_35, x54_38, x54_41, x54_44, x54_45, x54_46, x54_49, x54_50, x54_51, x54_54, x54_57, x54_60, x54_61, x54_62, x54_65, x54_68, x54_76, x54_77, x54_78, x54_78a, x54_78n, x54_81, x54_82, x54_83, x54_86, x54_87, x54_90, x54_93, x54_101, x54_102, x54_105, x54_108, x54_111, x54_112, x54_115, x54_118, x54_121, x54_122, x54_125, x54_126, x54_129, x54_132, x54_133, x54_136, x54_139, x54_142, x54_143, x54_146, x54_147, x54_150, x54_153, gI_sI, gI_sR, gI_sA, gI_sL, gI_sF, gI_sQ, gI_sG, gI_sN, gR_sI, gR_sR, gR_sA, gR_sL, gR_sF, gR_sQ, gR_sG, gR_sN, gA_sI, gA_sR, gA_sA, gA_sL, gA_sF, gA_sQ, gA_sG, gA_sN, gL_sI, gL_sR, gL_sA, gL_sL, gL_sF, gL_sQ, gL_sG, gL_sN, gF_sI, gF_sR, gF_sA, gF_sL, gF_sF, gF_sQ, gF_sG, gF_sN, gQ_sI, gQ_sR, gQ_sA, gQ_sL, gQ_sF, gQ_sQ, gQ_sG, gQ_sN, gN_sI, gN_sR, gN_sA, gN_sL, gN_sF, gN_sQ, gN_sG, gN_sN, gS_sI, gS_sR, gS_sA, gS_sL, gS_sF, gS_sQ, gS_sG, gS_sN, gO_sI, gO_sR, gO_sA, gO_sL, gO_sF, gO_sQ, gO_sN, isR_ref, isR_null, isR_rf, isR2_ref, isR2_null, isR2_rf, am_k_int, am_k_ref, am_k_null, am_k_rf, am_k_none, am_k_long, am_k_double, rf_some, rf_none, KT_ret, KT_void, XP_ap, true_and, and_true, Nat.reduceAdd, Nat.reduceEqDiff, reduceIte, if_true, if_false, eq_self, true_or, or_true, forall_const, not_true_eq_false, not_false_eq_true]; exact q
        · rw [KT_thr rfl]; exact q
      have cons : ¬ sx = 0 → ¬ sy = 0 → XW 54 d' Q 82 [some (.ref a), some (.ref b), some (.ref x), some (.ref y)] [] (toH D) := by
        intro nx ny
        by_cases hss : sx = sy
        · subst hss
          have hX1 : ∀ K, fO D x 2 1 K ↔ K (va_rf ox) := fun K => fO_of hTx rfl rfl
          have hY1 : ∀ K, fO D y 2 1 K ↔ K (va_rf oy) := fun K => fO_of hTy rfl rfl
          have hht : ty_ht (tm x) ≤ h + 1 := by
            rcases hh with z | z
            · rw [← hrx] at z; omega
            · rw [hrx]; exact z
          have base : tm x = tm y → Q (.inl none) (toH D) := fun z => hU.same hH hL hal hbl (hrx.symm.trans (z.trans hry))
          rcases hRx with ⟨e1, _⟩ | ⟨rfl, e2⟩ | ⟨rfl, e2⟩ | ⟨rfl, e2⟩ | ⟨rfl, bx, rfl, e2, e3⟩ | ⟨rfl, bx, cx', rfl, rfl, e2, e3, e4⟩
          · exact absurd e1 nx
          · have e5 : tm y = .var 0 := by
              rcases hRy with ⟨g, _⟩ | ⟨_, g⟩ | ⟨g, _⟩ | ⟨g, _⟩ | ⟨g, _⟩ | ⟨g, _⟩
              · cases g
              · exact g
              all_goals cases g
            simp only [x54_0, x54_1, x54_4, x54_5, x54_6, x54_9, x54_10, x54_11, x54_12, x54_15, x54_16, x54_17, x54_20, x54_21, x54_24, x54_25, x54_28, x54_31, x54_34, x54_35, x54_38, x54_41, x54_44, x54_45, x54_46, x54_49, x54_50, x54_51, x54_54, x54_57, x54_60, x54_61, x54_62, x54_65, x54_68, x54_76, x54_77, x54_78, x54_78a, x54_78n, x54_81, x54_82, x54_83, x54_86, x54_87, x54_90, x54_93, x54_101, x54_102, x54_105, x54_108, x54_111, x54_112, x54_115, x54_118, x54_121, x54_122, x54_125, x54_126, x54_129, x54_132, x54_133, x54_136, x54_139, x54_142, x54_143, x54_146, x54_147, x54_150, x54_153, gI_sI, gI_sR, gI_sA, gI_sL, gI_sF, gI_sQ, gI_sG, gI_sN, gR_sI, gR_sR, gR_sA, gR_sL, gR_sF, gR_sQ, gR_sG, gR_sN, gA_sI, gA_sR, gA_sA, gA_sL, gA_sF, gA_sQ, gA_sG, gA_sN, gL_sI, gL_sR, gL_sA, gL_sL, gL_sF, gL_sQ, gL_sG, gL_sN, gF_sI, gF_sR, gF_sA, gF_sL, gF_sF, gF_sQ, gF_sG, gF_sN, gQ_sI, gQ_sR, gQ_sA, gQ_sL, gQ_sF, gQ_sQ, gQ_sG, gQ_sN, gN_sI, gN_sR, gN_sA, gN_sL, gN_sF, gN_sQ, gN_sG, gN_sN, gS_sI, gS_sR, gS_sA, gS_sL, gS_sF, gS_sQ, gS_sG, gS_sN, gO_sI, gO_sR, gO_sA, gO_sL, gO_sF, gO_sQ, gO_sN, isR_ref, isR_null, isR_rf, isR2_ref, isR2_null, isR2_rf, am_k_int, am_k_ref, am_k_null, am_k_rf, am_k_none, am_k_long, am_k_double, rf_some, rf_none, KT_ret, KT_void, XP_ap, true_and, and_true, Nat.reduceAdd, Nat.reduceEqDiff, reduceIte, if_true, if_false, eq_self, true_or, or_true, forall_const, not_true_eq_false, not_false_eq_true, hX0, hY0, Value.ref.injEq, false_imp_iff, not_false_eq_true, true_imp_iff]
            exact base (e2.trans e5.symm)
          · have e5 : tm y = .var 1 := by
              rcases hRy with ⟨g, _⟩ | ⟨g, _⟩ | ⟨_, g⟩ | ⟨g, _⟩ | ⟨g, _⟩ | ⟨g, _⟩
              · cases g
              · cases g
              · exact g
              all_goals cases g
            simp only [x54_0, x54_1, x54_4, x54_5, x54_6, x54_9, x54_10, x54_11, x54_12, x54_15, x54_16, x54_17, x54_20, x54_21, x54_24, x54_25, x54_28, x54_31, x54_34, x54_35, x54_38, x54_41, x54_44, x54_45, x54_46, x54_49, x54_50, x54_51, x54_54, x54_57, x54_60, x54_61, x54_62, x54_65, x54_68, x54_76, x54_77, x54_78, x54_78a, x54_78n, x54_81, x54_82, x54_83, x54_86, x54_87, x54_90, x54_93, x54_101, x54_102, x54_105, x54_108, x54_111, x54_112, x54_115, x54_118, x54_121, x54_122, x54_125, x54_126, x54_129, x54_132, x54_133, x54_136, x54_139, x54_142, x54_143, x54_146, x54_147, x54_150, x54_153, gI_sI, gI_sR, gI_sA, gI_sL, gI_sF, gI_sQ, gI_sG, gI_sN, gR_sI, gR_sR, gR_sA, gR_sL, gR_sF, gR_sQ, gR_sG, gR_sN, gA_sI, gA_sR, gA_sA, gA_sL, gA_sF, gA_sQ, gA_sG, gA_sN, gL_sI, gL_sR, gL_sA, gL_sL, gL_sF, gL_sQ, gL_sG, gL_sN, gF_sI, gF_sR, gF_sA, gF_sL, gF_sF, gF_sQ, gF_sG, gF_sN, gQ_sI, gQ_sR, gQ_sA, gQ_sL, gQ_sF, gQ_sQ, gQ_sG, gQ_sN, gN_sI, gN_sR, gN_sA, gN_sL, gN_sF, gN_sQ, gN_sG, gN_sN, gS_sI, gS_sR, gS_sA, gS_sL, gS_sF, gS_sQ, gS_sG, gS_sN, gO_sI, gO_sR, gO_sA, gO_sL, gO_sF, gO_sQ, gO_sN, isR_ref, isR_null, isR_rf, isR2_ref, isR2_null, isR2_rf, am_k_int, am_k_ref, am_k_null, am_k_rf, am_k_none, am_k_long, am_k_double, rf_some, rf_none, KT_ret, KT_void, XP_ap, true_and, and_true, Nat.reduceAdd, Nat.reduceEqDiff, reduceIte, if_true, if_false, eq_self, true_or, or_true, forall_const, not_true_eq_false, not_false_eq_true, hX0, hY0, Value.ref.injEq, false_imp_iff, not_false_eq_true, true_imp_iff]
            exact base (e2.trans e5.symm)
          · have e5 : tm y = .var 2 := by
              rcases hRy with ⟨g, _⟩ | ⟨g, _⟩ | ⟨g, _⟩ | ⟨_, g⟩ | ⟨g, _⟩ | ⟨g, _⟩
              · cases g
              · cases g
              · cases g
              · exact g
              all_goals cases g
            simp only [x54_0, x54_1, x54_4, x54_5, x54_6, x54_9, x54_10, x54_11, x54_12, x54_15, x54_16, x54_17, x54_20, x54_21, x54_24, x54_25, x54_28, x54_31, x54_34, x54_35, x54_38, x54_41, x54_44, x54_45, x54_46, x54_49, x54_50, x54_51, x54_54, x54_57, x54_60, x54_61, x54_62, x54_65, x54_68, x54_76, x54_77, x54_78, x54_78a, x54_78n, x54_81, x54_82, x54_83, x54_86, x54_87, x54_90, x54_93, x54_101, x54_102, x54_105, x54_108, x54_111, x54_112, x54_115, x54_118, x54_121, x54_122, x54_125, x54_126, x54_129, x54_132, x54_133, x54_136, x54_139, x54_142, x54_143, x54_146, x54_147, x54_150, x54_153, gI_sI, gI_sR, gI_sA, gI_sL, gI_sF, gI_sQ, gI_sG, gI_sN, gR_sI, gR_sR, gR_sA, gR_sL, gR_sF, gR_sQ, gR_sG, gR_sN, gA_sI, gA_sR, gA_sA, gA_sL, gA_sF, gA_sQ, gA_sG, gA_sN, gL_sI, gL_sR, gL_sA, gL_sL, gL_sF, gL_sQ, gL_sG, gL_sN, gF_sI, gF_sR, gF_sA, gF_sL, gF_sF, gF_sQ, gF_sG, gF_sN, gQ_sI, gQ_sR, gQ_sA, gQ_sL, gQ_sF, gQ_sQ, gQ_sG, gQ_sN, gN_sI, gN_sR, gN_sA, gN_sL, gN_sF, gN_sQ, gN_sG, gN_sN, gS_sI, gS_sR, gS_sA, gS_sL, gS_sF, gS_sQ, gS_sG, gS_sN, gO_sI, gO_sR, gO_sA, gO_sL, gO_sF, gO_sQ, gO_sN, isR_ref, isR_null, isR_rf, isR2_ref, isR2_null, isR2_rf, am_k_int, am_k_ref, am_k_null, am_k_rf, am_k_none, am_k_long, am_k_double, rf_some, rf_none, KT_ret, KT_void, XP_ap, true_and, and_true, Nat.reduceAdd, Nat.reduceEqDiff, reduceIte, if_true, if_false, eq_self, true_or, or_true, forall_const, not_true_eq_false, not_false_eq_true, hX0, hY0, Value.ref.injEq, false_imp_iff, not_false_eq_true, true_imp_iff]
            exact base (e2.trans e5.symm)
          · obtain ⟨ey, ey1, ey2, ey3⟩ : ∃ ey, oy = some ey ∧ isT D ey ∧ tm y = .neg (tm ey) := by
              rcases hRy with ⟨g, _⟩ | ⟨g, _⟩ | ⟨g, _⟩ | ⟨g, _⟩ | ⟨_, g⟩ | ⟨g, _⟩
              · cases g
              · cases g
              · cases g
              · cases g
              · exact g
              · cases g
            subst ey1
            have hbx := hH.lt e2
            have hey := hH.lt ey2
            have hVab : ∀ V, VLs tm (82 + gN D) V → (V a = V b ↔ V bx = V ey) := by
              intro V hV
              rw [hV a hal, hV b hbl, ← hrx, ← hry, e3, ey3, hV bx hbx, hV ey hey]
              exact ⟨fun z => Lean.Grind.CommRing.Expr.neg.inj z, fun z => congrArg Lean.Grind.CommRing.Expr.neg z⟩
            have hwV : ∀ V, VLs tm (82 + gN D) V → ty_w (V bx) ≤ ty_w (V a) := by
              intro V hV
              rw [hV a hal, ← hrx, e3, hV bx hbx]
              show _ ≤ ty_w (ty_s V (tm bx)) + 2
              omega
            have hvx : ∀ u, ty_h u (tm bx) ∨ ty_h u (tm ey) → ty_h u (tm a) ∨ ty_h u (tm b) := by
              rintro u (z | z)
              · exact .inl (by rw [← hrx, e3]; exact z)
              · exact .inr (by rw [← hry, ey3]; exact z)
            have hht' : ty_ht (tm bx) ≤ h := by rw [e3] at hht; have hht : ty_ht (tm bx) + 1 ≤ h + 1 := hht; omega
            simp only [x54_0, x54_1, x54_4, x54_5, x54_6, x54_9, x54_10, x54_11, x54_12, x54_15, x54_16, x54_17, x54_20, x54_21, x54_24, x54_25, x54_28, x54_31, x54_34, x54_35, x54_38, x54_41, x54_44, x54_45, x54_46, x54_49, x54_50, x54_51, x54_54, x54_57, x54_60, x54_61, x54_62, x54_65, x54_68, x54_76, x54_77, x54_78, x54_78a, x54_78n, x54_81, x54_82, x54_83, x54_86, x54_87, x54_90, x54_93, x54_101, x54_102, x54_105, x54_108, x54_111, x54_112, x54_115, x54_118, x54_121, x54_122, x54_125, x54_126, x54_129, x54_132, x54_133, x54_136, x54_139, x54_142, x54_143, x54_146, x54_147, x54_150, x54_153, gI_sI, gI_sR, gI_sA, gI_sL, gI_sF, gI_sQ, gI_sG, gI_sN, gR_sI, gR_sR, gR_sA, gR_sL, gR_sF, gR_sQ, gR_sG, gR_sN, gA_sI, gA_sR, gA_sA, gA_sL, gA_sF, gA_sQ, gA_sG, gA_sN, gL_sI, gL_sR, gL_sA, gL_sL, gL_sF, gL_sQ, gL_sG, gL_sN, gF_sI, gF_sR, gF_sA, gF_sL, gF_sF, gF_sQ, gF_sG, gF_sN, gQ_sI, gQ_sR, gQ_sA, gQ_sL, gQ_sF, gQ_sQ, gQ_sG, gQ_sN, gN_sI, gN_sR, gN_sA, gN_sL, gN_sF, gN_sQ, gN_sG, gN_sN, gS_sI, gS_sR, gS_sA, gS_sL, gS_sF, gS_sQ, gS_sG, gS_sN, gO_sI, gO_sR, gO_sA, gO_sL, gO_sF, gO_sQ, gO_sN, isR_ref, isR_null, isR_rf, isR2_ref, isR2_null, isR2_rf, am_k_int, am_k_ref, am_k_null, am_k_rf, am_k_none, am_k_long, am_k_double, rf_some, rf_none, KT_ret, KT_void, XP_ap, true_and, and_true, Nat.reduceAdd, Nat.reduceEqDiff, reduceIte, if_true, if_false, eq_self, true_or, or_true, forall_const, not_true_eq_false, not_false_eq_true, hX0, hY0, hX1, hY1, Value.ref.injEq, false_imp_iff, not_false_eq_true, true_imp_iff]
            refine ihh X bx ey d' D G tm ρ L _ hH hL e2 ey2 (fun u hu => hX u (hvx u hu)) hu (.inr hht') (by omega) (by omega) hcap (fun u hu => hng u (hvx u hu)) ⟨fun D1 G1 tm1 ρ1 L1 H1 LV1 F1 S1 V1 LS1 C1 => ?_, fun hn D1 x1 G1 tm1 ρ1 H1 E1 => ?_⟩
            · have hTx1 : ∃ o l, TY D1 x 4 o tx cx l qx := by
                obtain ⟨o, l, z, _⟩ := F1.2.2 _ _ _ _ _ _ _ hTx
                exact ⟨o, l, z⟩
              obtain ⟨o1, l1, hTx1⟩ := hTx1
              have hX01 : ∀ K, fO D1 x 2 0 K ↔ K (.ref 4) := fun K => fO_of hTx1 rfl rfl
              simp only [x54_0, x54_1, x54_4, x54_5, x54_6, x54_9, x54_10, x54_11, x54_12, x54_15, x54_16, x54_17, x54_20, x54_21, x54_24, x54_25, x54_28, x54_31, x54_34, x54_35, x54_38, x54_41, x54_44, x54_45, x54_46, x54_49, x54_50, x54_51, x54_54, x54_57, x54_60, x54_61, x54_62, x54_65, x54_68, x54_76, x54_77, x54_78, x54_78a, x54_78n, x54_81, x54_82, x54_83, x54_86, x54_87, x54_90, x54_93, x54_101, x54_102, x54_105, x54_108, x54_111, x54_112, x54_115, x54_118, x54_121, x54_122, x54_125, x54_126, x54_129, x54_132, x54_133, x54_136, x54_139, x54_142, x54_143, x54_146, x54_147, x54_150, x54_153, gI_sI, gI_sR, gI_sA, gI_sL, gI_sF, gI_sQ, gI_sG, gI_sN, gR_sI, gR_sR, gR_sA, gR_sL, gR_sF, gR_sQ, gR_sG, gR_sN, gA_sI, gA_sR, gA_sA, gA_sL, gA_sF, gA_sQ, gA_sG, gA_sN, gL_sI, gL_sR, gL_sA, gL_sL, gL_sF, gL_sQ, gL_sG, gL_sN, gF_sI, gF_sR, gF_sA, gF_sL, gF_sF, gF_sQ, gF_sG, gF_sN, gQ_sI, gQ_sR, gQ_sA, gQ_sL, gQ_sF, gQ_sQ, gQ_sG, gQ_sN, gN_sI, gN_sR, gN_sA, gN_sL, gN_sF, gN_sQ, gN_sG, gN_sN, gS_sI, gS_sR, gS_sA, gS_sL, gS_sF, gS_sQ, gS_sG, gS_sN, gO_sI, gO_sR, gO_sA, gO_sL, gO_sF, gO_sQ, gO_sN, isR_ref, isR_null, isR_rf, isR2_ref, isR2_null, isR2_rf, am_k_int, am_k_ref, am_k_null, am_k_rf, am_k_none, am_k_long, am_k_double, rf_some, rf_none, KT_ret, KT_void, XP_ap, true_and, and_true, Nat.reduceAdd, Nat.reduceEqDiff, reduceIte, if_true, if_false, eq_self, true_or, or_true, forall_const, not_true_eq_false, not_false_eq_true, hX01, Value.ref.injEq, false_imp_iff, not_false_eq_true, true_imp_iff]
              refine hU.1 D1 G1 tm1 ρ1 L1 H1 LV1 F1 S1 (fun V => ?_) LS1 ⟨?_, fun c hc u hu => ?_⟩
              · rw [V1]; exact ⟨fun z => ⟨z.1, (hVab V z.1).mpr z.2⟩, fun z => ⟨z.1, (hVab V z.1).mp z.2⟩⟩
              · rcases C1.1 with z | ⟨v, z1, z2⟩
                · exact .inl z
                · exact .inr ⟨v, hvx v z1, z2⟩
              · rcases C1.2 c hc u hu with z | z
                · exact .inl z
                · exact .inr (hvx u z)
            · rw [KT_thr rfl]
              exact hU.2 (fun V hV hab hle => hn V hV ((hVab V hV).mp hab) (Nat.le_trans (hwV V hV) hle)) D1 x1 G1 tm1 ρ1 H1 E1
          · obtain ⟨ey, fy, ey1, ey2, ey3, ey4, ey5⟩ : ∃ ey fy, oy = some ey ∧ ty = some fy ∧ isT D ey ∧ isT D fy ∧ tm y = .add (tm ey) (tm fy) := by
              rcases hRy with ⟨g, _⟩ | ⟨g, _⟩ | ⟨g, _⟩ | ⟨g, _⟩ | ⟨g, _⟩ | ⟨_, g⟩
              · cases g
              · cases g
              · cases g
              · cases g
              · cases g
              · exact g
            subst ey1 ey2
            have hbx := hH.lt e2
            have hcx := hH.lt e3
            have hey := hH.lt ey3
            have hfy := hH.lt ey4
            have hVab : ∀ V, VLs tm (82 + gN D) V → (V a = V b ↔ V bx = V ey ∧ V cx' = V fy) := by
              intro V hV
              rw [hV a hal, hV b hbl, ← hrx, ← hry, e4, ey5, hV bx hbx, hV ey hey, hV cx' hcx, hV fy hfy]
              exact ⟨fun z => Lean.Grind.CommRing.Expr.add.inj z, fun z => by show Lean.Grind.CommRing.Expr.add _ _ = Lean.Grind.CommRing.Expr.add _ _; rw [z.1, z.2]⟩
            have hwV : ∀ V, VLs tm (82 + gN D) V → ty_w (V bx) ≤ ty_w (V a) ∧ ty_w (V cx') ≤ ty_w (V a) := by
              intro V hV
              rw [hV a hal, ← hrx, e4, hV bx hbx, hV cx' hcx]
              show _ ≤ ty_w (ty_s V (tm bx)) + ty_w (ty_s V (tm cx')) + 3 ∧ _ ≤ ty_w (ty_s V (tm bx)) + ty_w (ty_s V (tm cx')) + 3
              omega
            have hvx : ∀ u, ty_h u (tm bx) ∨ ty_h u (tm ey) → ty_h u (tm a) ∨ ty_h u (tm b) := by
              rintro u (z | z)
              · exact .inl (by rw [← hrx, e4]; exact .inl z)
              · exact .inr (by rw [← hry, ey5]; exact .inl z)
            have hvx2 : ∀ u, ty_h u (tm cx') ∨ ty_h u (tm fy) → ty_h u (tm a) ∨ ty_h u (tm b) := by
              rintro u (z | z)
              · exact .inl (by rw [← hrx, e4]; exact .inr z)
              · exact .inr (by rw [← hry, ey5]; exact .inr z)
            have hht' : ty_ht (tm bx) ≤ h ∧ ty_ht (tm cx') ≤ h := by rw [e4] at hht; have hht : max (ty_ht (tm bx)) (ty_ht (tm cx')) + 1 ≤ h + 1 := hht; omega
            simp only [x54_0, x54_1, x54_4, x54_5, x54_6, x54_9, x54_10, x54_11, x54_12, x54_15, x54_16, x54_17, x54_20, x54_21, x54_24, x54_25, x54_28, x54_31, x54_34, x54_35, x54_38, x54_41, x54_44, x54_45, x54_46, x54_49, x54_50, x54_51, x54_54, x54_57, x54_60, x54_61, x54_62, x54_65, x54_68, x54_76, x54_77, x54_78, x54_78a, x54_78n, x54_81, x54_82, x54_83, x54_86, x54_87, x54_90, x54_93, x54_101, x54_102, x54_105, x54_108, x54_111, x54_112, x54_115, x54_118, x54_121, x54_122, x54_125, x54_126, x54_129, x54_132, x54_133, x54_136, x54_139, x54_142, x54_143, x54_146, x54_147, x54_150, x54_153, gI_sI, gI_sR, gI_sA, gI_sL, gI_sF, gI_sQ, gI_sG, gI_sN, gR_sI, gR_sR, gR_sA, gR_sL, gR_sF, gR_sQ, gR_sG, gR_sN, gA_sI, gA_sR, gA_sA, gA_sL, gA_sF, gA_sQ, gA_sG, gA_sN, gL_sI, gL_sR, gL_sA, gL_sL, gL_sF, gL_sQ, gL_sG, gL_sN, gF_sI, gF_sR, gF_sA, gF_sL, gF_sF, gF_sQ, gF_sG, gF_sN, gQ_sI, gQ_sR, gQ_sA, gQ_sL, gQ_sF, gQ_sQ, gQ_sG, gQ_sN, gN_sI, gN_sR, gN_sA, gN_sL, gN_sF, gN_sQ, gN_sG, gN_sN, gS_sI, gS_sR, gS_sA, gS_sL, gS_sF, gS_sQ, gS_sG, gS_sN, gO_sI, gO_sR, gO_sA, gO_sL, gO_sF, gO_sQ, gO_sN, isR_ref, isR_null, isR_rf, isR2_ref, isR2_null, isR2_rf, am_k_int, am_k_ref, am_k_null, am_k_rf, am_k_none, am_k_long, am_k_double, rf_some, rf_none, KT_ret, KT_void, XP_ap, true_and, and_true, Nat.reduceAdd, Nat.reduceEqDiff, reduceIte, if_true, if_false, eq_self, true_or, or_true, forall_const, not_true_eq_false, not_false_eq_true, hX0, hY0, hX1, hY1, Value.ref.injEq, false_imp_iff, not_false_eq_true, true_imp_iff]
            refine ihh X bx ey d' D G tm ρ L _ hH hL e2 ey3 (fun u hu => hX u (hvx u hu)) hu (.inr hht'.1) (by omega) (by omega) hcap (fun u hu => hng u (hvx u hu)) ⟨fun D1 G1 tm1 ρ1 L1 H1 LV1 F1 S1 V1 LS1 C1 => ?_, fun hn D1 x1 G1 tm1 ρ1 H1 E1 => ?_⟩
            · obtain ⟨o1, l1, hTx1, _⟩ := F1.2.2 _ _ _ _ _ _ _ hTx
              obtain ⟨o2, l2, hTy1, _⟩ := F1.2.2 _ _ _ _ _ _ _ hTy
              have hX01 : ∀ K, fO D1 x 2 0 K ↔ K (.ref 5) := fun K => fO_of hTx1 rfl rfl
              have hX21 : ∀ K, fO D1 x 2 2 K ↔ K (va_rf (some cx')) := fun K => fO_of hTx1 rfl rfl
              have hY21 : ∀ K, fO D1 y 2 2 K ↔ K (va_rf (some fy)) := fun K => fO_of hTy1 rfl rfl
              simp only [x54_0, x54_1, x54_4, x54_5, x54_6, x54_9, x54_10, x54_11, x54_12, x54_15, x54_16, x54_17, x54_20, x54_21, x54_24, x54_25, x54_28, x54_31, x54_34, x54_35, x54_38, x54_41, x54_44, x54_45, x54_46, x54_49, x54_50, x54_51, x54_54, x54_57, x54_60, x54_61, x54_62, x54_65, x54_68, x54_76, x54_77, x54_78, x54_78a, x54_78n, x54_81, x54_82, x54_83, x54_86, x54_87, x54_90, x54_93, x54_101, x54_102, x54_105, x54_108, x54_111, x54_112, x54_115, x54_118, x54_121, x54_122, x54_125, x54_126, x54_129, x54_132, x54_133, x54_136, x54_139, x54_142, x54_143, x54_146, x54_147, x54_150, x54_153, gI_sI, gI_sR, gI_sA, gI_sL, gI_sF, gI_sQ, gI_sG, gI_sN, gR_sI, gR_sR, gR_sA, gR_sL, gR_sF, gR_sQ, gR_sG, gR_sN, gA_sI, gA_sR, gA_sA, gA_sL, gA_sF, gA_sQ, gA_sG, gA_sN, gL_sI, gL_sR, gL_sA, gL_sL, gL_sF, gL_sQ, gL_sG, gL_sN, gF_sI, gF_sR, gF_sA, gF_sL, gF_sF, gF_sQ, gF_sG, gF_sN, gQ_sI, gQ_sR, gQ_sA, gQ_sL, gQ_sF, gQ_sQ, gQ_sG, gQ_sN, gN_sI, gN_sR, gN_sA, gN_sL, gN_sF, gN_sQ, gN_sG, gN_sN, gS_sI, gS_sR, gS_sA, gS_sL, gS_sF, gS_sQ, gS_sG, gS_sN, gO_sI, gO_sR, gO_sA, gO_sL, gO_sF, gO_sQ, gO_sN, isR_ref, isR_null, isR_rf, isR2_ref, isR2_null, isR2_rf, am_k_int, am_k_ref, am_k_null, am_k_rf, am_k_none, am_k_long, am_k_double, rf_some, rf_none, KT_ret, KT_void, XP_ap, true_and, and_true, Nat.reduceAdd, Nat.reduceEqDiff, reduceIte, if_true, if_false, eq_self, true_or, or_true, forall_const, not_true_eq_false, not_false_eq_true, hX01, hX21, hY21, Value.ref.injEq, false_imp_iff, not_false_eq_true, true_imp_iff]
              have hng1 : ∀ u, ty_h u (tm1 cx') ∨ ty_h u (tm1 fy) → ¬ L1 u = 1000 := by
                rintro u (z | z)
                · exact S1.2.2.2.1 cx' hcx (fun w hw => hng w (hvx2 w (.inl hw))) u z
                · exact S1.2.2.2.1 fy hfy (fun w hw => hng w (hvx2 w (.inr hw))) u z
              have hsub : ∀ u, ty_h u (tm1 cx') ∨ ty_h u (tm1 fy) → ty_h u (tm a) ∨ ty_h u (tm b) := by
                rintro u (z | z)
                · rcases C1.2 cx' hcx u z with w | w
                  · exact hvx2 u (.inl w)
                  · exact hvx u w
                · rcases C1.2 fy hfy u z with w | w
                  · exact hvx2 u (.inr w)
                  · exact hvx u w
              have hU2 : UQ D1 (82 + gN D1) tm1 L1 cx' fy (KT 54 d' Q 150 3 [some (.ref a), some (.ref b), some (.ref x), some (.ref y)] []) := by
                rw [F1.n]
                refine ⟨fun D2 G2 tm2 ρ2 L2 H2 LV2 F2 S2 V2 LS2 C2 => ?_, fun hn D2 x2 G2 tm2 ρ2 H2 E2 => ?_⟩
                · simp only [x54_0, x54_1, x54_4, x54_5, x54_6, x54_9, x54_10, x54_11, x54_12, x54_15, x54_16, x54_17, x54_20, x54_21, x54_24, x54_25, x54_28, x54_31, x54_34, x54_35, x54_38, x54_41, x54_44, x54_45, x54_46, x54_49, x54_50, x54_51, x54_54, x54_57, x54_60, x54_61, x54_62, x54_65, x54_68, x54_76, x54_77, x54_78, x54_78a, x54_78n, x54_81, x54_82, x54_83, x54_86, x54_87, x54_90, x54_93, x54_101, x54_102, x54_105, x54_108, x54_111, x54_112, x54_115, x54_118, x54_121, x54_122, x54_125, x54_126, x54_129, x54_132, x54_133, x54_136, x54_139, x54_142, x54_143, x54_146, x54_147, x54_150, x54_153, gI_sI, gI_sR, gI_sA, gI_sL, gI_sF, gI_sQ, gI_sG, gI_sN, gR_sI, gR_sR, gR_sA, gR_sL, gR_sF, gR_sQ, gR_sG, gR_sN, gA_sI, gA_sR, gA_sA, gA_sL, gA_sF, gA_sQ, gA_sG, gA_sN, gL_sI, gL_sR, gL_sA, gL_sL, gL_sF, gL_sQ, gL_sG, gL_sN, gF_sI, gF_sR, gF_sA, gF_sL, gF_sF, gF_sQ, gF_sG, gF_sN, gQ_sI, gQ_sR, gQ_sA, gQ_sL, gQ_sF, gQ_sQ, gQ_sG, gQ_sN, gN_sI, gN_sR, gN_sA, gN_sL, gN_sF, gN_sQ, gN_sG, gN_sN, gS_sI, gS_sR, gS_sA, gS_sL, gS_sF, gS_sQ, gS_sG, gS_sN, gO_sI, gO_sR, gO_sA, gO_sL, gO_sF, gO_sQ, gO_sN, isR_ref, isR_null, isR_rf, isR2_ref, isR2_null, isR2_rf, am_k_int, am_k_ref, am_k_null, am_k_rf, am_k_none, am_k_long, am_k_double, rf_some, rf_none, KT_ret, KT_void, XP_ap, true_and, and_true, Nat.reduceAdd, Nat.reduceEqDiff, reduceIte, if_true, if_false, eq_self, true_or, or_true, forall_const, not_true_eq_false, not_false_eq_true]
                  refine hU.1 D2 G2 tm2 ρ2 L2 H2 LV2 (F1.trans F2) (S1.trans S2) (fun V => ?_) (LS1.trans LS2 fun V hV => ((V2 V).mp hV).1) ⟨?_, fun c hc u hu => ?_⟩
                  · rw [V2, V1]
                    exact ⟨fun ⟨⟨z1, z2⟩, z3⟩ => ⟨z1, (hVab V z1).mpr ⟨z2, z3⟩⟩, fun ⟨z1, z2⟩ => ⟨⟨z1, ((hVab V z1).mp z2).1⟩, ((hVab V z1).mp z2).2⟩⟩
                  · rcases C2.1 with z | ⟨v, z1, z2⟩
                    · rw [z]
                      rcases C1.1 with w | ⟨v, w1, w2⟩
                      · exact .inl w
                      · exact .inr ⟨v, hvx v w1, w2⟩
                    · exact .inr ⟨v, hsub v z1, z2⟩
                  · rcases C2.2 c hc u hu with z | z
                    · rcases C1.2 c hc u z with w | w
                      · exact .inl w
                      · exact .inr (hvx u w)
                    · exact .inr (hsub u z)
                · rw [KT_thr rfl]
                  obtain ⟨D3, k1, k2⟩ := E2
                  refine hU.2 (fun V hV hab hle => ?_) D2 x2 G2 tm2 ρ2 H2 ⟨D3, F1.trans k1, k2⟩
                  have hab' := (hVab V hV).mp hab
                  exact hn V ((V1 V).mpr ⟨hV, hab'.1⟩) hab'.2 (Nat.le_trans (hwV V hV).2 hle)
              rcases C1.1 with z | ⟨v, z1, z2⟩
              · refine ihh X cx' fy d' D1 G1 tm1 ρ1 L1 _ H1 LV1 (F1.ist e3) (F1.ist ey4) (fun u hu => hX u (hsub u hu)) hu (.inr (by rw [z]; exact hht'.2)) (by omega) (by omega) (F1.cap hcap) hng1 hU2
              · have hvX : v ∈ X := hX v (hvx v z1)
                have hlt := flt_lt hvX
                refine ihu (u - 1) (by omega) 41 (X.filter fun w => decide (¬ w = v)) cx' fy d' D1 G1 tm1 ρ1 L1 _ H1 LV1 (F1.ist e3) (F1.ist ey4) (fun w hw => ?_) (by omega) ?_ (Nat.le_refl _) (by omega) (F1.cap hcap) hng1 hU2
                · rw [List.mem_filter]
                  refine ⟨hX w (hsub w hw), decide_eq_true fun e => ?_⟩
                  subst e
                  rcases hw with k | k
                  · exact z2 cx' hcx k
                  · exact z2 fy hfy k
                · have := ty_ht_w (u := tm1 cx')
                  omega
            · rw [KT_thr rfl]
              exact hU.2 (fun V hV hab hle => hn V hV ((hVab V hV).mp hab).1 (Nat.le_trans (hwV V hV).1 hle)) D1 x1 G1 tm1 ρ1 H1 E1
        · simp only [x54_0, x54_1, x54_4, x54_5, x54_6, x54_9, x54_10, x54_11, x54_12, x54_15, x54_16, x54_17, x54_20, x54_21, x54_24, x54_25, x54_28, x54_31, x54_34, x54_35, x54_38, x54_41, x54_44, x54_45, x54_46, x54_49, x54_50, x54_51, x54_54, x54_57, x54_60, x54_61, x54_62, x54_65, x54_68, x54_76, x54_77, x54_78, x54_78a, x54_78n, x54_81, x54_82, x54_83, x54_86, x54_87, x54_90, x54_93, x54_101, x54_102, x54_105, x54_108, x54_111, x54_112, x54_115, x54_118, x54_121, x54_122, x54_125, x54_126, x54_129, x54_132, x54_133, x54_136, x54_139, x54_142, x54_143, x54_146, x54_147, x54_150, x54_153, gI_sI, gI_sR, gI_sA, gI_sL, gI_sF, gI_sQ, gI_sG, gI_sN, gR_sI, gR_sR, gR_sA, gR_sL, gR_sF, gR_sQ, gR_sG, gR_sN, gA_sI, gA_sR, gA_sA, gA_sL, gA_sF, gA_sQ, gA_sG, gA_sN, gL_sI, gL_sR, gL_sA, gL_sL, gL_sF, gL_sQ, gL_sG, gL_sN, gF_sI, gF_sR, gF_sA, gF_sL, gF_sF, gF_sQ, gF_sG, gF_sN, gQ_sI, gQ_sR, gQ_sA, gQ_sL, gQ_sF, gQ_sQ, gQ_sG, gQ_sN, gN_sI, gN_sR, gN_sA, gN_sL, gN_sF, gN_sQ, gN_sG, gN_sN, gS_sI, gS_sR, gS_sA, gS_sL, gS_sF, gS_sQ, gS_sG, gS_sN, gO_sI, gO_sR, gO_sA, gO_sL, gO_sF, gO_sQ, gO_sN, isR_ref, isR_null, isR_rf, isR2_ref, isR2_null, isR2_rf, am_k_int, am_k_ref, am_k_null, am_k_rf, am_k_none, am_k_long, am_k_double, rf_some, rf_none, KT_ret, KT_void, XP_ap, true_and, and_true, Nat.reduceAdd, Nat.reduceEqDiff, reduceIte, if_true, if_false, eq_self, true_or, or_true, forall_const, not_true_eq_false, not_false_eq_true, hX0, hY0, Value.ref.injEq, eq_false hss, false_imp_iff, not_false_eq_true, true_imp_iff]
          refine ⟨hcap, hU.bad (fun V hV hab _ => ?_) hH UF.refl⟩
          rw [hV a hal, hV b hbl, ← hrx, ← hry] at hab
          exact ty_rg hRx hRy hss nx ny hab
      exact ⟨fun z => ⟨fun z' => absurd z z', fun _ => vx z⟩, fun z => ⟨fun z' => ⟨fun _ => cons z z', fun z2 => absurd z2 z⟩, fun z' => vy z z'⟩⟩
    · subst hxy
      exact hU.same hH hL hal hbl (hrx.symm.trans hry)
end TEE
