/-! FunDeskModel, reading: the whole -/
set_option maxRecDepth 100000
section WH
variable {d d' : Nat} {D D' : sS} {Q : am_O → am_H → Prop} {tx : Nat → Int32} {n p dep k m s q j g f : Nat} {b : Bool} {v c : Int32}
theorem RU_all (hd : 8 ≤ d) : RU (HM d Q) tx n := ⟨⟨r_e0 (by omega), r_e1 (by omega), r_e2 (by omega), r_e3 (by omega), r_e4 (by omega)⟩, ⟨r_g1 (by omega), r_g2 (by omega), r_g4 (by omega), r_g5 (by omega), r_g6 (by omega), r_g7 (by omega), r_g8 (by omega), r_g10 (by omega), r_g11 (by omega), r_g12 (by omega)⟩, ⟨r_o0 (by omega), r_o1 (by omega), r_o2 (by omega), r_o3 (by omega)⟩, ⟨r_a0 (by omega), r_a1 (by omega), r_a2 (by omega), r_a3 (by omega), r_a4 (by omega), r_a5 (by omega), r_a6 (by omega)⟩, ⟨r_p0 (by omega), r_p1 (by omega), r_p2 (by omega)⟩, r_q1 (by omega), r_q2 (by omega), r_q3 (by omega), r_q4 (by omega), r_q5 (by omega), r_q6 (by omega), r_q7 (by omega)⟩
theorem h_bad (hb : gI D 536 = 1) (hQ : Q (.inl (some (.int 0))) (toH D)) : HM d Q D := by
  intro a b
  have c1 : (gI D 536 = 0) = False := c_n hb 0 (by decide)
  rw [x82_35]
  simp only [x82_0, x82_1, x82_2, x82_5, x82_6, x82_7, x82_10, x82_11, x82_12, x82_15, x82_16, x82_17, x82_20, x82_21, x82_22, x82_25, x82_26, x82_27, x82_30, x82_31, x82_32, x82_36, x82_39, x82_42, x82_43, x82_46, x82_50, x82_53, x82_54, x82_55, x82_56, x82_57, x82_60, x82_61, x82_62, x82_63, x82_64, x82_67, x82_68, x82_71, x82_72, x82_73, x82_76, x82_77, x82_78, x82_81, x82_84, x82_85, x82_88, x82_89, x82_90, x82_93, x82_96, x82_97, x82_99, x82_102, x82_103, x82_104, x82_107, x82_110, x82_111, x82_113, x82_116, x82_117, x82_118, x82_121, x82_124, x82_125, x82_127, x82_130, x82_131, x82_132, x82_135, x82_138, x82_139, x82_140, x82_143, x82_146, x82_147, x82_150, x82_153, x82_154, x82_157, x82_159, x82_162, x82_163, x82_166, x82_167, x82_170, x82_173, x82_174, x82_177, x82_178, gI_sI, gI_sR, gI_sA, gI_sL, gI_sF, gI_sQ, gI_sG, gI_sN, gR_sI, gR_sR, gR_sA, gR_sL, gR_sF, gR_sQ, gR_sG, gR_sN, gA_sI, gA_sR, gA_sA, gA_sL, gA_sF, gA_sQ, gA_sG, gA_sN, gL_sI, gL_sR, gL_sA, gL_sL, gL_sF, gL_sQ, gL_sG, gL_sN, gF_sI, gF_sR, gF_sA, gF_sL, gF_sF, gF_sQ, gF_sG, gF_sN, gQ_sI, gQ_sR, gQ_sA, gQ_sL, gQ_sF, gQ_sQ, gQ_sG, gQ_sN, gN_sI, gN_sR, gN_sA, gN_sL, gN_sF, gN_sQ, gN_sG, gN_sN, gS_sI, gS_sR, gS_sA, gS_sL, gS_sF, gS_sQ, gS_sG, gS_sN, gO_sI, gO_sR, gO_sA, gO_sL, gO_sF, gO_sQ, gO_sN, isR_ref, isR_null, isR_rf, isR2_ref, isR2_null, isR2_rf, am_k_int, am_k_ref, am_k_null, am_k_rf, am_k_none, am_k_long, am_k_double, rf_some, rf_none, KT_ret, KT_void, XP_ap, true_and, and_true, Nat.reduceAdd, Nat.reduceEqDiff, reduceIte, if_true, if_false, eq_self, true_or, or_true, forall_const, not_true_eq_false, not_false_eq_true, c1, false_imp_iff]
  exact ⟨fun _ => hQ, fun _ => hQ⟩
theorem h_done (hT : TM D tx n) (hp : gI D 515 = i32 p) (hpn : p ≤ n) (hk : gI D 533 = 0) (hb : gI D 536 = 0) (hd : 3 ≤ d) (h1 : n ≤ sk tx n p → Q (.inl (some (.int 1))) (toH (sI D 515 (i32 (sk tx n p))))) (h0 : ¬ n ≤ sk tx n p → Q (.inl (some (.int 0))) (toH (sI D 515 (i32 (sk tx n p))))) : HM d Q D := by
  intro a b
  have hn := hT.2.1
  have s0 := sk_1 (tx := tx) hpn
  have c0 : ((0 : Int32) < 0) = False := by decide
  rw [x82_35]
  simp only [x82_0, x82_1, x82_2, x82_5, x82_6, x82_7, x82_10, x82_11, x82_12, x82_15, x82_16, x82_17, x82_20, x82_21, x82_22, x82_25, x82_26, x82_27, x82_30, x82_31, x82_32, x82_36, x82_39, x82_42, x82_43, x82_46, x82_50, x82_53, x82_54, x82_55, x82_56, x82_57, x82_60, x82_61, x82_62, x82_63, x82_64, x82_67, x82_68, x82_71, x82_72, x82_73, x82_76, x82_77, x82_78, x82_81, x82_84, x82_85, x82_88, x82_89, x82_90, x82_93, x82_96, x82_97, x82_99, x82_102, x82_103, x82_104, x82_107, x82_110, x82_111, x82_113, x82_116, x82_117, x82_118, x82_121, x82_124, x82_125, x82_127, x82_130, x82_131, x82_132, x82_135, x82_138, x82_139, x82_140, x82_143, x82_146, x82_147, x82_150, x82_153, x82_154, x82_157, x82_159, x82_162, x82_163, x82_166, x82_167, x82_170, x82_173, x82_174, x82_177, x82_178, gI_sI, gI_sR, gI_sA, gI_sL, gI_sF, gI_sQ, gI_sG, gI_sN, gR_sI, gR_sR, gR_sA, gR_sL, gR_sF, gR_sQ, gR_sG, gR_sN, gA_sI, gA_sR, gA_sA, gA_sL, gA_sF, gA_sQ, gA_sG, gA_sN, gL_sI, gL_sR, gL_sA, gL_sL, gL_sF, gL_sQ, gL_sG, gL_sN, gF_sI, gF_sR, gF_sA, gF_sL, gF_sF, gF_sQ, gF_sG, gF_sN, gQ_sI, gQ_sR, gQ_sA, gQ_sL, gQ_sF, gQ_sQ, gQ_sG, gQ_sN, gN_sI, gN_sR, gN_sA, gN_sL, gN_sF, gN_sQ, gN_sG, gN_sN, gS_sI, gS_sR, gS_sA, gS_sL, gS_sF, gS_sQ, gS_sG, gS_sN, gO_sI, gO_sR, gO_sA, gO_sL, gO_sF, gO_sQ, gO_sN, isR_ref, isR_null, isR_rf, isR2_ref, isR2_null, isR2_rf, am_k_int, am_k_ref, am_k_null, am_k_rf, am_k_none, am_k_long, am_k_double, rf_some, rf_none, KT_ret, KT_void, XP_ap, true_and, and_true, Nat.reduceAdd, Nat.reduceEqDiff, reduceIte, if_true, if_false, eq_self, true_or, or_true, forall_const, not_true_eq_false, not_false_eq_true, hb, hk, c0, false_imp_iff, true_imp_iff]
  refine m_peek (p := p) hT hp (by omega) (by omega) ?_
  simp only [x82_0, x82_1, x82_2, x82_5, x82_6, x82_7, x82_10, x82_11, x82_12, x82_15, x82_16, x82_17, x82_20, x82_21, x82_22, x82_25, x82_26, x82_27, x82_30, x82_31, x82_32, x82_36, x82_39, x82_42, x82_43, x82_46, x82_50, x82_53, x82_54, x82_55, x82_56, x82_57, x82_60, x82_61, x82_62, x82_63, x82_64, x82_67, x82_68, x82_71, x82_72, x82_73, x82_76, x82_77, x82_78, x82_81, x82_84, x82_85, x82_88, x82_89, x82_90, x82_93, x82_96, x82_97, x82_99, x82_102, x82_103, x82_104, x82_107, x82_110, x82_111, x82_113, x82_116, x82_117, x82_118, x82_121, x82_124, x82_125, x82_127, x82_130, x82_131, x82_132, x82_135, x82_138, x82_139, x82_140, x82_143, x82_146, x82_147, x82_150, x82_153, x82_154, x82_157, x82_159, x82_162, x82_163, x82_166, x82_167, x82_170, x82_173, x82_174, x82_177, x82_178, gI_sI, gI_sR, gI_sA, gI_sL, gI_sF, gI_sQ, gI_sG, gI_sN, gR_sI, gR_sR, gR_sA, gR_sL, gR_sF, gR_sQ, gR_sG, gR_sN, gA_sI, gA_sR, gA_sA, gA_sL, gA_sF, gA_sQ, gA_sG, gA_sN, gL_sI, gL_sR, gL_sA, gL_sL, gL_sF, gL_sQ, gL_sG, gL_sN, gF_sI, gF_sR, gF_sA, gF_sL, gF_sF, gF_sQ, gF_sG, gF_sN, gQ_sI, gQ_sR, gQ_sA, gQ_sL, gQ_sF, gQ_sQ, gQ_sG, gQ_sN, gN_sI, gN_sR, gN_sA, gN_sL, gN_sF, gN_sQ, gN_sG, gN_sN, gS_sI, gS_sR, gS_sA, gS_sL, gS_sF, gS_sQ, gS_sG, gS_sN, gO_sI, gO_sR, gO_sA, gO_sL, gO_sF, gO_sQ, gO_sN, isR_ref, isR_null, isR_rf, isR2_ref, isR2_null, isR2_rf, am_k_int, am_k_ref, am_k_null, am_k_rf, am_k_none, am_k_long, am_k_double, rf_some, rf_none, KT_ret, KT_void, XP_ap, true_and, and_true, Nat.reduceAdd, Nat.reduceEqDiff, reduceIte, if_true, if_false, eq_self, true_or, or_true, forall_const, not_true_eq_false, not_false_eq_true, hT.1]
  rw [i32_lt (by omega) (by omega)]
  have e10 : hm tx n (sk tx n p) = 10 ↔ n ≤ sk tx n p := by
    unfold hm
    split
    · rename_i h
      constructor
      · intro z
        have := (hT.2.2.2.2 _ h).1
        rw [z] at this
        exact absurd this (by decide)
      · intro z; omega
    · rename_i h
      exact ⟨fun _ => by omega, fun _ => rfl⟩
  rw [e10]
  exact ⟨fun z => h0 z, fun z => ⟨fun z' => by omega, fun _ => h1 z⟩⟩
/-- the line is read -/
theorem m_reads {r : Option (tE × Nat × Int32)} {acc : tE} (hT : TM D tx n) (hd : 9 ≤ d) (hr : PR tx n f 0 0 0 0 acc = some r)
    (h0 : (∀ e p b, r = some (e, p, b) → ¬ n ≤ sk tx n p) → ∀ D', MFR 0 0 0 D D' → Q (.inl (some (.int 0))) (toH D'))
    (h1 : ∀ e p b, r = some (e, p, b) → n ≤ sk tx n p → ∀ D', MFR 0 0 0 D D' → gI D' 519 = i32 (rl e) → gI D' 526 = i32 (sl e) → rl e ≤ 119 → sl e ≤ 60 → RD (Fdr D') 0 (eL e none 0 0 0) → RS (Gdr D') 0 (eS e) → Q (.inl (some (.int 1))) (toH D')) : AC d 82 [.ref 40] (toH D) Q := by
  have hn := hT.2.1
  refine AC.pos hd fun d' hd' => ?_
  rw [e82]
  simp only [x82_0, x82_1, x82_2, x82_5, x82_6, x82_7, x82_10, x82_11, x82_12, x82_15, x82_16, x82_17, x82_20, x82_21, x82_22, x82_25, x82_26, x82_27, x82_30, x82_31, x82_32, x82_36, x82_39, x82_42, x82_43, x82_46, x82_49, x82_50, x82_53, x82_54, x82_55, x82_56, x82_57, x82_60, x82_61, x82_62, x82_63, x82_64, x82_67, x82_68, x82_71, x82_72, x82_73, x82_76, x82_77, x82_78, x82_81, x82_84, x82_85, x82_88, x82_89, x82_90, x82_93, x82_96, x82_97, x82_99, x82_102, x82_103, x82_104, x82_107, x82_110, x82_111, x82_113, x82_116, x82_117, x82_118, x82_121, x82_124, x82_125, x82_127, x82_130, x82_131, x82_132, x82_135, x82_138, x82_139, x82_140, x82_143, x82_146, x82_147, x82_150, x82_153, x82_154, x82_157, x82_159, x82_162, x82_163, x82_166, x82_167, x82_170, x82_173, x82_174, x82_177, x82_178, gI_sI, gI_sR, gI_sA, gI_sL, gI_sF, gI_sQ, gI_sG, gI_sN, gR_sI, gR_sR, gR_sA, gR_sL, gR_sF, gR_sQ, gR_sG, gR_sN, gA_sI, gA_sR, gA_sA, gA_sL, gA_sF, gA_sQ, gA_sG, gA_sN, gL_sI, gL_sR, gL_sA, gL_sL, gL_sF, gL_sQ, gL_sG, gL_sN, gF_sI, gF_sR, gF_sA, gF_sL, gF_sF, gF_sQ, gF_sG, gF_sN, gQ_sI, gQ_sR, gQ_sA, gQ_sL, gQ_sF, gQ_sQ, gQ_sG, gQ_sN, gN_sI, gN_sR, gN_sA, gN_sL, gN_sF, gN_sQ, gN_sG, gN_sN, gS_sI, gS_sR, gS_sA, gS_sL, gS_sF, gS_sQ, gS_sG, gS_sN, gO_sI, gO_sR, gO_sA, gO_sL, gO_sF, gO_sQ, gO_sN, isR_ref, isR_null, isR_rf, isR2_ref, isR2_null, isR2_rf, am_k_int, am_k_ref, am_k_null, am_k_rf, am_k_none, am_k_long, am_k_double, rf_some, rf_none, KT_ret, KT_void, XP_ap, true_and, and_true, Nat.reduceAdd, Nat.reduceEqDiff, reduceIte, if_true, if_false, eq_self, true_or, or_true, forall_const, not_true_eq_false, not_false_eq_true]
  refine m_begin (k := 0) rfl (by omega) (by omega) ?_
  simp only [x82_0, x82_1, x82_2, x82_5, x82_6, x82_7, x82_10, x82_11, x82_12, x82_15, x82_16, x82_17, x82_20, x82_21, x82_22, x82_25, x82_26, x82_27, x82_30, x82_31, x82_32, x82_36, x82_39, x82_42, x82_43, x82_46, x82_49, x82_50, x82_53, x82_54, x82_55, x82_56, x82_57, x82_60, x82_61, x82_62, x82_63, x82_64, x82_67, x82_68, x82_71, x82_72, x82_73, x82_76, x82_77, x82_78, x82_81, x82_84, x82_85, x82_88, x82_89, x82_90, x82_93, x82_96, x82_97, x82_99, x82_102, x82_103, x82_104, x82_107, x82_110, x82_111, x82_113, x82_116, x82_117, x82_118, x82_121, x82_124, x82_125, x82_127, x82_130, x82_131, x82_132, x82_135, x82_138, x82_139, x82_140, x82_143, x82_146, x82_147, x82_150, x82_153, x82_154, x82_157, x82_159, x82_162, x82_163, x82_166, x82_167, x82_170, x82_173, x82_174, x82_177, x82_178, gI_sI, gI_sR, gI_sA, gI_sL, gI_sF, gI_sQ, gI_sG, gI_sN, gR_sI, gR_sR, gR_sA, gR_sL, gR_sF, gR_sQ, gR_sG, gR_sN, gA_sI, gA_sR, gA_sA, gA_sL, gA_sF, gA_sQ, gA_sG, gA_sN, gL_sI, gL_sR, gL_sA, gL_sL, gL_sF, gL_sQ, gL_sG, gL_sN, gF_sI, gF_sR, gF_sA, gF_sL, gF_sF, gF_sQ, gF_sG, gF_sN, gQ_sI, gQ_sR, gQ_sA, gQ_sL, gQ_sF, gQ_sQ, gQ_sG, gQ_sN, gN_sI, gN_sR, gN_sA, gN_sL, gN_sF, gN_sQ, gN_sG, gN_sN, gS_sI, gS_sR, gS_sA, gS_sL, gS_sF, gS_sQ, gS_sG, gS_sN, gO_sI, gO_sR, gO_sA, gO_sL, gO_sF, gO_sQ, gO_sN, isR_ref, isR_null, isR_rf, isR2_ref, isR2_null, isR2_rf, am_k_int, am_k_ref, am_k_null, am_k_rf, am_k_none, am_k_long, am_k_double, rf_some, rf_none, KT_ret, KT_void, XP_ap, true_and, and_true, Nat.reduceAdd, Nat.reduceEqDiff, reduceIte, if_true, if_false, eq_self, true_or, or_true, forall_const, not_true_eq_false, not_false_eq_true]
  generalize hS : sI (sA (sA (sA (sA (sI (sI (sI (sI (sI (sI D 515 0) 519 0) 526 0) 533 0) 534 0) 536 0) 529 0 0) 530 0 0) 531 0 0) 532 0 0) 533 (i32 (0 + 1)) = S
  have M0 : MFR 0 0 0 D S := by
    subst hS
    exact (by repeat (first | exact MFR.refl | refine MFR.seti ?_ (by decide) | refine MFR.both ?_ | refine MFR.set ?_ (.inr (.inr ⟨by decide, by omega⟩)) | refine MFR.set ?_ (.inl ⟨by decide, by omega⟩) | refine MFR.set ?_ (.inr (.inl ⟨by decide, by omega⟩))))
  have key : HM d' Q S := by
    refine (ML_all (RU_all (by omega)) f).1 0 0 0 0 0 acc r S 0 0 0 (by omega) hr ?_ rfl ?_ (fun z => by omega) ⟨by omega, by omega, Nat.le_refl _, .inl rfl, by omega⟩ ?_
    · subst hS; exact ⟨hT, rfl, rfl, rfl, rfl, rfl, rfl⟩
    · subst hS
      refine ⟨?_, ?_, ?_, ?_⟩ <;> first | (simp [gA_sI, gA_sA]; done) | (simp [gA_sI, gA_sA]; rfl)
    · match r, hr, h0, h1 with
      | none, hr, h0, h1 =>
        intro D' hf hb
        exact h_bad hb (h0 (fun _ _ _ z => by cases z) D' (M0.trans hf))
      | some (e, p', b), hr, h0, h1 =>
        intro D' p1 hf hm hsk hlt hpn hw hv _ hrg
        obtain ⟨hT', hp', hdp', hk', hdr', hsg', hb'⟩ := hm
        have hw : rl e + 1 + 2 * 0 ≤ 2 * p1 := hw
        have hv : sl e + 0 ≤ p1 := hv
        refine h_done (p := p1) hT' hp' hpn hk' hb' (by omega) (fun z => ?_) (fun z => ?_)
        · rw [hsk] at z
          refine h1 e p' b rfl z _ ((M0.trans hf).seti (by decide)) ?_ ?_ (by omega) (by omega) hrg.1 hrg.2
          · exact hdr'.trans (by show i32 (0 + rl e) = _; rw [Nat.zero_add])
          · exact hsg'.trans (by show i32 (0 + sl e) = _; rw [Nat.zero_add])
        · rw [hsk] at z
          refine h0 (fun e' p' b' z' => ?_) _ ((M0.trans hf).seti (by decide))
          cases z'; exact z
  exact key _ _
end WH
