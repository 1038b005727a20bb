/-! FunDesk, reading: an expression, and all goals -/
set_option maxRecDepth 100000
section RQ
variable {d : Nat} {D : sS} {Q : am_O → am_H → Prop} {tx : Nat → Int32} {n p dep f : Nat} {bn : Int32} {acc : tE} {r : Option (tE × Nat × Int32)}
theorem c_expr (ih : ∀ j, j ≤ f → CT tx n j) (hP : PR tx n (f + 1) 0 p dep bn acc = some r) (hT : TF D tx n) (hp : gI D 141 = i32 p) (hpn : p ≤ n) (hdep : gI D 142 = i32 dep) (hd16 : dep ≤ 16) (hR : RM D (3 * (n - p) + 2)) (hd : 3 * (f + 1) + 4 ≤ d) (hQ : RP Q D n p dep 0 r) : AC d 26 [.ref 25] (toH D) Q := by
  refine AC.pos (k := 3 * f + 6) (by omega) fun d' hd' => ?_
  rw [e26]
  simp only [x26_0, x26_1, x26_2, x26_5, x26_6, x26_7, x26_10, x26_11, x26_14, x26_16, x26_19, x26_20, x26_23, x26_24, x26_27, x26_28, x26_29, x26_32, x26_35, x26_36, x26_37, x26_38, x26_41, x26_42, x26_43, x26_46, x26_47, gI_sI, gI_sR, gI_sA, gI_sL, gI_sF, gI_sQ, gI_sG, gI_sN, gR_sI, gR_sR, gR_sA, gR_sL, gR_sF, gR_sQ, gR_sG, gR_sN, gA_sI, gA_sR, gA_sA, gA_sL, gA_sF, gA_sQ, gA_sG, gA_sN, gL_sI, gL_sR, gL_sA, gL_sL, gL_sF, gL_sQ, gL_sG, gL_sN, gF_sI, gF_sR, gF_sA, gF_sL, gF_sF, gF_sQ, gF_sG, gF_sN, gQ_sI, gQ_sR, gQ_sA, gQ_sL, gQ_sF, gQ_sQ, gQ_sG, gQ_sN, gN_sI, gN_sR, gN_sA, gN_sL, gN_sF, gN_sQ, gN_sG, gN_sN, gS_sI, gS_sR, gS_sA, gS_sL, gS_sF, gS_sQ, gS_sG, gS_sN, gO_sI, gO_sR, gO_sA, gO_sL, gO_sF, gO_sQ, gO_sN, isR_ref, isR_null, isR_rf, isR2_ref, isR2_null, isR2_rf, am_k_int, am_k_ref, am_k_null, am_k_rf, am_k_none, am_k_long, am_k_double, rf_some, rf_none, KT_ret, KT_void, XP_ap, true_and, and_true, Nat.reduceAdd, Nat.reduceEqDiff, reduceIte, if_true, if_false, eq_self, true_or, or_true, forall_const, not_true_eq_false, not_false_eq_true, hdep]
  have hn := hT.2.1
  have hs := sk_lt (tx := tx) hpn
  have hs2 := sk_le (tx := tx) (n := n) (p := p)
  rw [PR_0] at hP
  rw [i32_add1, dep_lt hd16]
  refine ⟨fun h16 => ?_, fun h16 => ?_⟩
  case refine_2 =>
    rw [if_pos h16] at hP
    cases hP
    refine f_ill (by omega) (hR.cap (D := D) (by omega) (by omega)) (fun h => by cases h) (fun _ => ?_)
    rw [KT_thr rfl]
    exact hQ _ _ (FP.refl.dep.new (by omega)) (by rw [gN_sN, gN_sI]; omega)
  rw [if_neg h16] at hP
  refine f_ill (by omega) (hR.cap (D := D) (by omega) (by omega)) (fun _ => ?_) (fun h => absurd rfl h)
  simp only [x26_0, x26_1, x26_2, x26_5, x26_6, x26_7, x26_10, x26_11, x26_14, x26_16, x26_19, x26_20, x26_23, x26_24, x26_27, x26_28, x26_29, x26_32, x26_35, x26_36, x26_37, x26_38, x26_41, x26_42, x26_43, x26_46, x26_47, gI_sI, gI_sR, gI_sA, gI_sL, gI_sF, gI_sQ, gI_sG, gI_sN, gR_sI, gR_sR, gR_sA, gR_sL, gR_sF, gR_sQ, gR_sG, gR_sN, gA_sI, gA_sR, gA_sA, gA_sL, gA_sF, gA_sQ, gA_sG, gA_sN, gL_sI, gL_sR, gL_sA, gL_sL, gL_sF, gL_sQ, gL_sG, gL_sN, gF_sI, gF_sR, gF_sA, gF_sL, gF_sF, gF_sQ, gF_sG, gF_sN, gQ_sI, gQ_sR, gQ_sA, gQ_sL, gQ_sF, gQ_sQ, gQ_sG, gQ_sN, gN_sI, gN_sR, gN_sA, gN_sL, gN_sF, gN_sQ, gN_sG, gN_sN, gS_sI, gS_sR, gS_sA, gS_sL, gS_sF, gS_sQ, gS_sG, gS_sN, gO_sI, gO_sR, gO_sA, gO_sL, gO_sF, gO_sQ, gO_sN, isR_ref, isR_null, isR_rf, isR2_ref, isR2_null, isR2_rf, am_k_int, am_k_ref, am_k_null, am_k_rf, am_k_none, am_k_long, am_k_double, rf_some, rf_none, KT_ret, KT_void, XP_ap, true_and, and_true, Nat.reduceAdd, Nat.reduceEqDiff, reduceIte, if_true, if_false, eq_self, true_or, or_true, forall_const, not_true_eq_false, not_false_eq_true]
  have hF0 : FP D (sI D 142 (i32 (dep + 1))) := FP.refl.dep
  refine f_peek (hF0.tf hT) (p := p) hp (by omega) (by omega) ?_
  simp only [x26_0, x26_1, x26_2, x26_5, x26_6, x26_7, x26_10, x26_11, x26_14, x26_16, x26_19, x26_20, x26_23, x26_24, x26_27, x26_28, x26_29, x26_32, x26_35, x26_36, x26_37, x26_38, x26_41, x26_42, x26_43, x26_46, x26_47, gI_sI, gI_sR, gI_sA, gI_sL, gI_sF, gI_sQ, gI_sG, gI_sN, gR_sI, gR_sR, gR_sA, gR_sL, gR_sF, gR_sQ, gR_sG, gR_sN, gA_sI, gA_sR, gA_sA, gA_sL, gA_sF, gA_sQ, gA_sG, gA_sN, gL_sI, gL_sR, gL_sA, gL_sL, gL_sF, gL_sQ, gL_sG, gL_sN, gF_sI, gF_sR, gF_sA, gF_sL, gF_sF, gF_sQ, gF_sG, gF_sN, gQ_sI, gQ_sR, gQ_sA, gQ_sL, gQ_sF, gQ_sQ, gQ_sG, gQ_sN, gN_sI, gN_sR, gN_sA, gN_sL, gN_sF, gN_sQ, gN_sG, gN_sN, gS_sI, gS_sR, gS_sA, gS_sL, gS_sF, gS_sQ, gS_sG, gS_sN, gO_sI, gO_sR, gO_sA, gO_sL, gO_sF, gO_sQ, gO_sN, isR_ref, isR_null, isR_rf, isR2_ref, isR2_null, isR2_rf, am_k_int, am_k_ref, am_k_null, am_k_rf, am_k_none, am_k_long, am_k_double, rf_some, rf_none, KT_ret, KT_void, XP_ap, true_and, and_true, Nat.reduceAdd, Nat.reduceEqDiff, reduceIte, if_true, if_false, eq_self, true_or, or_true, forall_const, not_true_eq_false, not_false_eq_true]
  generalize hD1 : sI (sI D 142 (i32 (dep + 1))) 141 (i32 (sk tx n p)) = D1
  have hF1 : FP D D1 := by rw [← hD1]; exact hF0.at_
  have n1 : gN D1 = gN D := by rw [← hD1]; rfl
  have a1 : gI D1 141 = i32 (sk tx n p) := by rw [← hD1]; rfl
  have c1 : gI D1 142 = i32 (dep + 1) := by rw [← hD1]; rfl
  have hQ1 : RQ (KT 26 d' Q 32 3 [some (.ref 25), none] []) D1 n (sk tx n p) (dep + 1) r := by
    refine ⟨fun hr D2 x hF2 hN => by rw [KT_thr rfl]; exact hQ.thr hr D2 x (hF1.trans hF2) (by omega), fun e q b hr D2 a hF2 h1 h2 h3 h4 h5 => ?_⟩
    simp only [x26_0, x26_1, x26_2, x26_5, x26_6, x26_7, x26_10, x26_11, x26_14, x26_16, x26_19, x26_20, x26_23, x26_24, x26_27, x26_28, x26_29, x26_32, x26_35, x26_36, x26_37, x26_38, x26_41, x26_42, x26_43, x26_46, x26_47, gI_sI, gI_sR, gI_sA, gI_sL, gI_sF, gI_sQ, gI_sG, gI_sN, gR_sI, gR_sR, gR_sA, gR_sL, gR_sF, gR_sQ, gR_sG, gR_sN, gA_sI, gA_sR, gA_sA, gA_sL, gA_sF, gA_sQ, gA_sG, gA_sN, gL_sI, gL_sR, gL_sA, gL_sL, gL_sF, gL_sQ, gL_sG, gL_sN, gF_sI, gF_sR, gF_sA, gF_sL, gF_sF, gF_sQ, gF_sG, gF_sN, gQ_sI, gQ_sR, gQ_sA, gQ_sL, gQ_sF, gQ_sQ, gQ_sG, gQ_sN, gN_sI, gN_sR, gN_sA, gN_sL, gN_sF, gN_sQ, gN_sG, gN_sN, gS_sI, gS_sR, gS_sA, gS_sL, gS_sF, gS_sQ, gS_sG, gS_sN, gO_sI, gO_sR, gO_sA, gO_sL, gO_sF, gO_sQ, gO_sN, isR_ref, isR_null, isR_rf, isR2_ref, isR2_null, isR2_rf, am_k_int, am_k_ref, am_k_null, am_k_rf, am_k_none, am_k_long, am_k_double, rf_some, rf_none, KT_ret, KT_void, XP_ap, true_and, and_true, Nat.reduceAdd, Nat.reduceEqDiff, reduceIte, if_true, if_false, eq_self, true_or, or_true, forall_const, not_true_eq_false, not_false_eq_true]
    rw [h2, i32_sub1 (by omega) (by omega)]
    refine hQ.ret hr _ _ (hF1.trans hF2).dep h1 rfl (by omega) h3 (by rw [gN_sI]; omega) ?_
    show EX (gO D2) _ (82 + gN D2) e none a
    rw [← n1]
    exact h5
  clear hQ
  refine AC.pos (k := 3 * f + 5) (by omega) fun d2 hd2 => ?_
  rw [e30]
  generalize hc : hr tx n (sk tx n p) = c at *
  have own : (c = 63 ∨ c = 35 ∨ c = 92 ∨ c = 33 ∨ c = 64) → XW 30 d2 (KT 26 d' Q 32 3 [some (.ref 25), none] []) 35 [some (.ref 25), some (.int c), none, none] [] (toH D1) := by
    intro ho
    have hl : sk tx n p < n := by rcases ho with h | h | h | h | h <;> exact ch_lt (hc.trans h) (by decide)
    rw [x30_35]
    simp only [x30_0, x30_1, x30_3, x30_6, x30_7, x30_9, x30_12, x30_13, x30_15, x30_18, x30_19, x30_21, x30_24, x30_25, x30_27, x30_30, x30_31, x30_34, x30_36, x30_37, x30_40, x30_41, x30_42, x30_45, x30_46, x30_48, x30_52, x30_55, x30_56, x30_57, x30_59, x30_62, x30_65, x30_66, x30_69, x30_70, x30_73, x30_74, x30_77, x30_78, x30_79, x30_81, x30_84, x30_87, x30_88, x30_91, x30_92, x30_95, x30_98, x30_98f, x30_99, x30_100, x30_101, x30_102, x30_105, x30_108, x30_109, x30_110, x30_112, x30_115, x30_116, x30_119, x30_121, x30_124, x30_125, x30_126, x30_128, x30_131, x30_132, x30_134, x30_137, x30_140, x30_141, x30_144, x30_145, x30_148, x30_151, x30_151f, x30_152, x30_153, x30_154, x30_157, x30_160, x30_161, x30_162, x30_164, x30_167, x30_170, x30_171, x30_173, x30_176, x30_177, x30_180, x30_182, x30_185, x30_186, x30_189, x30_190, x30_193, x30_194, x30_197, x30_198, x30_199, x30_201, x30_204, x30_207, x30_208, x30_211, x30_212, x30_215, x30_218, x30_218f, x30_219, x30_220, x30_221, x30_222, x30_225, x30_226, x30_228, x30_231, x30_232, x30_235, x30_236, x30_239, gI_sI, gI_sR, gI_sA, gI_sL, gI_sF, gI_sQ, gI_sG, gI_sN, gR_sI, gR_sR, gR_sA, gR_sL, gR_sF, gR_sQ, gR_sG, gR_sN, gA_sI, gA_sR, gA_sA, gA_sL, gA_sF, gA_sQ, gA_sG, gA_sN, gL_sI, gL_sR, gL_sA, gL_sL, gL_sF, gL_sQ, gL_sG, gL_sN, gF_sI, gF_sR, gF_sA, gF_sL, gF_sF, gF_sQ, gF_sG, gF_sN, gQ_sI, gQ_sR, gQ_sA, gQ_sL, gQ_sF, gQ_sQ, gQ_sG, gQ_sN, gN_sI, gN_sR, gN_sA, gN_sL, gN_sF, gN_sQ, gN_sG, gN_sN, gS_sI, gS_sR, gS_sA, gS_sL, gS_sF, gS_sQ, gS_sG, gS_sN, gO_sI, gO_sR, gO_sA, gO_sL, gO_sF, gO_sQ, gO_sN, isR_ref, isR_null, isR_rf, isR2_ref, isR2_null, isR2_rf, am_k_int, am_k_ref, am_k_null, am_k_rf, am_k_none, am_k_long, am_k_double, rf_some, rf_none, KT_ret, KT_void, XP_ap, true_and, and_true, Nat.reduceAdd, Nat.reduceEqDiff, reduceIte, if_true, if_false, eq_self, true_or, or_true, forall_const, not_true_eq_false, not_false_eq_true, a1]
    rw [i32_add1]
    have hF2 : FP D1 (sI D1 141 (i32 (sk tx n p + 1))) := FP.refl.at_
    have hQ2 := hQ1.go hF2 (p' := sk tx n p + 1) (by omega) (by omega) (by rw [gN_sI]; omega)
    have hR2 : RM (sI D1 141 (i32 (sk tx n p + 1))) (3 * (n - (sk tx n p + 1)) + 4) := hR.go (hF1.trans hF2) (by rw [gN_sI]; omega)
    have hT2 := (hF1.trans hF2).tf hT
    refine ⟨fun h63 => ⟨fun h35 => ?_, fun h35 => ?_⟩, fun h63 => ?_⟩
    · rw [if_neg h63, if_neg h35, if_pos (by rcases ho with h | h | h | h | h <;> simp_all)] at hP
      by_cases h92 : c = 92
      · rw [if_pos h92] at hP
        rw [h92]
        exact i_fun (ih f (Nat.le_refl _)) hP hT2 rfl (by omega) c1 (by omega) hR2 hd2 hQ2
      · rw [if_neg h92] at hP
        exact i_let (ih f (Nat.le_refl _)) (by rcases ho with h | h | h | h | h <;> simp_all) hP hT2 rfl (by omega) c1 (by omega) hR2 hd2 hQ2
    · rw [if_neg h63, if_pos h35] at hP
      refine c_cases ih hP hT2 rfl (by omega) c1 (by omega) hR2 (by omega) (fun hr D' x hF hN => by rw [KT_thr rfl]; exact hQ1.1 hr D' x (hF2.trans hF) (by rw [gN_sI] at hN; omega)) ?_
      intro e q b hr D' a hF h1 h2 h3 h4 h5
      simp only [x30_0, x30_1, x30_3, x30_6, x30_7, x30_9, x30_12, x30_13, x30_15, x30_18, x30_19, x30_21, x30_24, x30_25, x30_27, x30_30, x30_31, x30_34, x30_36, x30_37, x30_40, x30_41, x30_42, x30_45, x30_46, x30_48, x30_52, x30_55, x30_56, x30_57, x30_59, x30_62, x30_65, x30_66, x30_69, x30_70, x30_73, x30_74, x30_77, x30_78, x30_79, x30_81, x30_84, x30_87, x30_88, x30_91, x30_92, x30_95, x30_98, x30_98f, x30_99, x30_100, x30_101, x30_102, x30_105, x30_108, x30_109, x30_110, x30_112, x30_115, x30_116, x30_119, x30_121, x30_124, x30_125, x30_126, x30_128, x30_131, x30_132, x30_134, x30_137, x30_140, x30_141, x30_144, x30_145, x30_148, x30_151, x30_151f, x30_152, x30_153, x30_154, x30_157, x30_160, x30_161, x30_162, x30_164, x30_167, x30_170, x30_171, x30_173, x30_176, x30_177, x30_180, x30_182, x30_185, x30_186, x30_189, x30_190, x30_193, x30_194, x30_197, x30_198, x30_199, x30_201, x30_204, x30_207, x30_208, x30_211, x30_212, x30_215, x30_218, x30_218f, x30_219, x30_220, x30_221, x30_222, x30_225, x30_226, x30_228, x30_231, x30_232, x30_235, x30_236, x30_239, gI_sI, gI_sR, gI_sA, gI_sL, gI_sF, gI_sQ, gI_sG, gI_sN, gR_sI, gR_sR, gR_sA, gR_sL, gR_sF, gR_sQ, gR_sG, gR_sN, gA_sI, gA_sR, gA_sA, gA_sL, gA_sF, gA_sQ, gA_sG, gA_sN, gL_sI, gL_sR, gL_sA, gL_sL, gL_sF, gL_sQ, gL_sG, gL_sN, gF_sI, gF_sR, gF_sA, gF_sL, gF_sF, gF_sQ, gF_sG, gF_sN, gQ_sI, gQ_sR, gQ_sA, gQ_sL, gQ_sF, gQ_sQ, gQ_sG, gQ_sN, gN_sI, gN_sR, gN_sA, gN_sL, gN_sF, gN_sQ, gN_sG, gN_sN, gS_sI, gS_sR, gS_sA, gS_sL, gS_sF, gS_sQ, gS_sG, gS_sN, gO_sI, gO_sR, gO_sA, gO_sL, gO_sF, gO_sQ, gO_sN, isR_ref, isR_null, isR_rf, isR2_ref, isR2_null, isR2_rf, am_k_int, am_k_ref, am_k_null, am_k_rf, am_k_none, am_k_long, am_k_double, rf_some, rf_none, KT_ret, KT_void, XP_ap, true_and, and_true, Nat.reduceAdd, Nat.reduceEqDiff, reduceIte, if_true, if_false, eq_self, true_or, or_true, forall_const, not_true_eq_false, not_false_eq_true]
      rw [gN_sI] at h4
      exact hQ1.2 e q b hr D' a (hF2.trans hF) h1 h2 h3 (by omega) h5
    · rw [if_pos h63] at hP
      rw [h63]
      exact i_if (ih f (Nat.le_refl _)) hP hT2 rfl (by omega) c1 (by omega) hR2 hd2 hQ2
  simp only [x30_0, x30_1, x30_3, x30_6, x30_7, x30_9, x30_12, x30_13, x30_15, x30_18, x30_19, x30_21, x30_24, x30_25, x30_27, x30_30, x30_31, x30_34, x30_36, x30_37, x30_40, x30_41, x30_42, x30_45, x30_46, x30_48, x30_52, x30_55, x30_56, x30_57, x30_59, x30_62, x30_65, x30_66, x30_69, x30_70, x30_73, x30_74, x30_77, x30_78, x30_79, x30_81, x30_84, x30_87, x30_88, x30_91, x30_92, x30_95, x30_98, x30_98f, x30_99, x30_100, x30_101, x30_102, x30_105, x30_108, x30_109, x30_110, x30_112, x30_115, x30_116, x30_119, x30_121, x30_124, x30_125, x30_126, x30_128, x30_131, x30_132, x30_134, x30_137, x30_140, x30_141, x30_144, x30_145, x30_148, x30_151, x30_151f, x30_152, x30_153, x30_154, x30_157, x30_160, x30_161, x30_162, x30_164, x30_167, x30_170, x30_171, x30_173, x30_176, x30_177, x30_180, x30_182, x30_185, x30_186, x30_189, x30_190, x30_193, x30_194, x30_197, x30_198, x30_199, x30_201, x30_204, x30_207, x30_208, x30_211, x30_212, x30_215, x30_218, x30_218f, x30_219, x30_220, x30_221, x30_222, x30_225, x30_226, x30_228, x30_231, x30_232, x30_235, x30_236, x30_239, gI_sI, gI_sR, gI_sA, gI_sL, gI_sF, gI_sQ, gI_sG, gI_sN, gR_sI, gR_sR, gR_sA, gR_sL, gR_sF, gR_sQ, gR_sG, gR_sN, gA_sI, gA_sR, gA_sA, gA_sL, gA_sF, gA_sQ, gA_sG, gA_sN, gL_sI, gL_sR, gL_sA, gL_sL, gL_sF, gL_sQ, gL_sG, gL_sN, gF_sI, gF_sR, gF_sA, gF_sL, gF_sF, gF_sQ, gF_sG, gF_sN, gQ_sI, gQ_sR, gQ_sA, gQ_sL, gQ_sF, gQ_sQ, gQ_sG, gQ_sN, gN_sI, gN_sR, gN_sA, gN_sL, gN_sF, gN_sQ, gN_sG, gN_sN, gS_sI, gS_sR, gS_sA, gS_sL, gS_sF, gS_sQ, gS_sG, gS_sN, gO_sI, gO_sR, gO_sA, gO_sL, gO_sF, gO_sQ, gO_sN, isR_ref, isR_null, isR_rf, isR2_ref, isR2_null, isR2_rf, am_k_int, am_k_ref, am_k_null, am_k_rf, am_k_none, am_k_long, am_k_double, rf_some, rf_none, KT_ret, KT_void, XP_ap, true_and, and_true, Nat.reduceAdd, Nat.reduceEqDiff, reduceIte, if_true, if_false, eq_self, true_or, or_true, forall_const, not_true_eq_false, not_false_eq_true]
  refine ⟨fun h => own (by simp [h]), fun h92 => ⟨fun h => own (by simp [h]), fun h33 => ⟨fun h => own (by simp [h]), fun h64 => ⟨fun h => own (by simp [h]), fun h63 => ⟨fun h => own (by simp [h]), fun h35 => ?_⟩⟩⟩⟩⟩
  rw [if_neg h63, if_neg h35, if_neg (by simp [h92, h33, h64])] at hP
  refine (ih f (Nat.le_refl _)).last (g := 1) hP (by omega) (hF1.tf hT) a1 hs c1 (by omega) (by omega) (hR.go hF1 (by omega)) (by omega) (fun hr D' x hF hN => by rw [KT_thr rfl]; exact hQ1.1 hr D' x hF hN) ?_
  intro e q b D' a hr hF h1 h2 _ h3 h6 h4 h5 _
  simp only [x30_0, x30_1, x30_3, x30_6, x30_7, x30_9, x30_12, x30_13, x30_15, x30_18, x30_19, x30_21, x30_24, x30_25, x30_27, x30_30, x30_31, x30_34, x30_36, x30_37, x30_40, x30_41, x30_42, x30_45, x30_46, x30_48, x30_52, x30_55, x30_56, x30_57, x30_59, x30_62, x30_65, x30_66, x30_69, x30_70, x30_73, x30_74, x30_77, x30_78, x30_79, x30_81, x30_84, x30_87, x30_88, x30_91, x30_92, x30_95, x30_98, x30_98f, x30_99, x30_100, x30_101, x30_102, x30_105, x30_108, x30_109, x30_110, x30_112, x30_115, x30_116, x30_119, x30_121, x30_124, x30_125, x30_126, x30_128, x30_131, x30_132, x30_134, x30_137, x30_140, x30_141, x30_144, x30_145, x30_148, x30_151, x30_151f, x30_152, x30_153, x30_154, x30_157, x30_160, x30_161, x30_162, x30_164, x30_167, x30_170, x30_171, x30_173, x30_176, x30_177, x30_180, x30_182, x30_185, x30_186, x30_189, x30_190, x30_193, x30_194, x30_197, x30_198, x30_199, x30_201, x30_204, x30_207, x30_208, x30_211, x30_212, x30_215, x30_218, x30_218f, x30_219, x30_220, x30_221, x30_222, x30_225, x30_226, x30_228, x30_231, x30_232, x30_235, x30_236, x30_239, gI_sI, gI_sR, gI_sA, gI_sL, gI_sF, gI_sQ, gI_sG, gI_sN, gR_sI, gR_sR, gR_sA, gR_sL, gR_sF, gR_sQ, gR_sG, gR_sN, gA_sI, gA_sR, gA_sA, gA_sL, gA_sF, gA_sQ, gA_sG, gA_sN, gL_sI, gL_sR, gL_sA, gL_sL, gL_sF, gL_sQ, gL_sG, gL_sN, gF_sI, gF_sR, gF_sA, gF_sL, gF_sF, gF_sQ, gF_sG, gF_sN, gQ_sI, gQ_sR, gQ_sA, gQ_sL, gQ_sF, gQ_sQ, gQ_sG, gQ_sN, gN_sI, gN_sR, gN_sA, gN_sL, gN_sF, gN_sQ, gN_sG, gN_sN, gS_sI, gS_sR, gS_sA, gS_sL, gS_sF, gS_sQ, gS_sG, gS_sN, gO_sI, gO_sR, gO_sA, gO_sL, gO_sF, gO_sQ, gO_sN, isR_ref, isR_null, isR_rf, isR2_ref, isR2_null, isR2_rf, am_k_int, am_k_ref, am_k_null, am_k_rf, am_k_none, am_k_long, am_k_double, rf_some, rf_none, KT_ret, KT_void, XP_ap, true_and, and_true, Nat.reduceAdd, Nat.reduceEqDiff, reduceIte, if_true, if_false, eq_self, true_or, or_true, forall_const, not_true_eq_false, not_false_eq_true]
  exact hQ1.2 e q b hr D' a hF h1 h2 h3 h4 h5
theorem CT_all : ∀ f, CT tx n f := by
  intro f
  induction f using Nat.strongRecOn with
  | ind f ih =>
    cases f with
    | zero => intro g p dep bn acc r d D Q hP; cases hP
    | succ f =>
      have ih' : ∀ j, j ≤ f → CT tx n j := fun j hj => ih j (by omega)
      intro g p dep bn acc r d D Q hP hg hT hp hpn hdep hd16 hbn hR hd hQ
      match g, hg with
      | 0, _ => exact c_expr ih' hP hT hp hpn hdep hd16 hR hd hQ
      | 1, _ => exact c_cons (ih' f (Nat.le_refl _)) hP hT hp hpn hdep hd16 hR hd hQ
      | 2, _ => exact c_comp (ih' f (Nat.le_refl _)) hP hT hp hpn hdep hd16 hR hd hQ
      | 3, _ => exact c_sum ih' hP hT hp hpn hdep hd16 hR hd hQ
      | 4, _ => exact c_prod ih' hP hT hp hpn hdep hd16 hR hd hQ
      | 5, _ => exact c_appl ih' hP hT hp hpn hdep hd16 hR hd hQ
      | 6, _ => exact c_atom (ih' f (Nat.le_refl _)) hP hT hp hpn hdep hd16 hR hd hQ
      | 7, _ => exact c_pat (ih' f (Nat.le_refl _)) hP hT hp hpn hdep hd16 (hbn (by omega)) hR hd hQ
      | 8, _ => exact c_part (ih' f (Nat.le_refl _)) hP hT hp hpn hdep hd16 (hbn (by omega)) hR hd hQ
end RQ
