/-! FunDesk, reading: an expression -/
set_option maxRecDepth 100000
section RP
variable {d : Nat} {D : sS} {Q : am_O → am_H → Prop} {tx : Nat → Int32} {n p dep f : Nat} {bn : Int32} {acc : tE} {r : Option (tE × Nat × Int32)}
theorem RQ.go {D' : sS} {p' : Nat} (h : RQ Q D n p dep r) (hF : FP D D') (hp : p ≤ p') (hn : p' ≤ n) (hg : gN D' + 3 * p ≤ gN D + 3 * p') : RQ Q D' n p' dep r := by
  refine ⟨fun hr D2 x hF2 hN => h.1 hr D2 x (hF.trans hF2) (by omega), fun e q b hr D2 a hF2 h1 h2 h3 h4 h5 => h.2 e q b hr D2 a (hF.trans hF2) h1 h2 h3 (by omega) ?_⟩
  exact EX.mono (fun _ _ _ => rfl) (by have := hF.2.2.2.2.2.2.2.1; omega) (Nat.le_refl _) _ _ _ h5
theorem i_let (ih : CT tx n f) {c : Int32} (hc : c = 33 ∨ c = 64) (hP : (if lt (hr tx n (sk tx n p)) = true then et tx n 61 (sk tx n p + 1) fun p2 =>
              (if c = 64 then
                (if hr tx n (sk tx n p2) = 92 then bd (PR tx n f 0 (sk tx n p2) dep 0 acc) fun w p3 _ => et tx n 59 p3 fun p4 => bd (PR tx n f 0 p4 dep 0 acc) fun i p5 _ => rok (eRec (nat (hr tx n (sk tx n p))) w i) p5 0 else rno)
              else bd (PR tx n f 0 p2 dep 0 acc) fun w p3 _ => et tx n 59 p3 fun p4 => bd (PR tx n f 0 p4 dep 0 acc) fun i p5 _ => rok (eLet (nat (hr tx n (sk tx n p))) w i) p5 0) else rno) = some r) (hT : TF D tx n) (hp : gI D 141 = i32 p) (hpn : p ≤ n) (hdep : gI D 142 = i32 dep) (hd16 : dep ≤ 16) (hR : RM D (3 * (n - p) + 4)) {d' : Nat} (hd' : 3 * f + 5 ≤ d') (hQ : RQ Q D n p dep r) : XW 30 d' Q 120 [some (.ref 25), some (.int c), none, none] [] (toH D) := by
  have hn := hT.2.1
  have hs := sk_lt (tx := tx) hpn
  have hs2 := sk_le (tx := tx) (n := n) (p := p)
  have hpos := hr_pos (p := sk tx n p) hT
  have hfit := hr_fit (p := sk tx n p) hT
  have hc92 : ¬ c = 92 := by rcases hc with rfl | rfl <;> decide
  simp only [x30_0, x30_1, x30_3, x30_6, x30_7, x30_9, x30_12, x30_13, x30_15, x30_18, x30_19, x30_21, x30_24, x30_25, x30_27, x30_30, x30_31, x30_34, x30_35, x30_36, x30_37, x30_40, x30_41, x30_42, x30_45, x30_46, x30_48, x30_51, x30_52, x30_55, x30_56, x30_57, x30_59, x30_62, x30_65, x30_66, x30_69, x30_70, x30_73, x30_74, x30_77, x30_78, x30_79, x30_81, x30_84, x30_87, x30_88, x30_91, x30_92, x30_95, x30_98, x30_98f, x30_99, x30_100, x30_101, x30_102, x30_105, x30_108, x30_109, x30_110, x30_112, x30_115, x30_116, x30_119, x30_120, x30_121, x30_124, x30_125, x30_126, x30_128, x30_131, x30_132, x30_134, x30_137, x30_140, x30_141, x30_144, x30_145, x30_148, x30_151, x30_151f, x30_152, x30_153, x30_154, x30_157, x30_160, x30_161, x30_162, x30_164, x30_167, x30_170, x30_171, x30_173, x30_176, x30_177, x30_180, x30_182, x30_185, x30_186, x30_189, x30_190, x30_194, x30_197, x30_198, x30_199, x30_201, x30_204, x30_207, x30_208, x30_211, x30_212, x30_215, x30_218, x30_218f, x30_219, x30_220, x30_221, x30_222, x30_225, x30_226, x30_228, x30_231, x30_232, x30_235, x30_236, x30_239, gI_sI, gI_sR, gI_sA, gI_sL, gI_sF, gI_sQ, gI_sG, gI_sN, gR_sI, gR_sR, gR_sA, gR_sL, gR_sF, gR_sQ, gR_sG, gR_sN, gA_sI, gA_sR, gA_sA, gA_sL, gA_sF, gA_sQ, gA_sG, gA_sN, gL_sI, gL_sR, gL_sA, gL_sL, gL_sF, gL_sQ, gL_sG, gL_sN, gF_sI, gF_sR, gF_sA, gF_sL, gF_sF, gF_sQ, gF_sG, gF_sN, gQ_sI, gQ_sR, gQ_sA, gQ_sL, gQ_sF, gQ_sQ, gQ_sG, gQ_sN, gN_sI, gN_sR, gN_sA, gN_sL, gN_sF, gN_sQ, gN_sG, gN_sN, gS_sI, gS_sR, gS_sA, gS_sL, gS_sF, gS_sQ, gS_sG, gS_sN, gO_sI, gO_sR, gO_sA, gO_sL, gO_sF, gO_sQ, gO_sN, isR_ref, isR_null, isR_rf, isR2_ref, isR2_null, isR2_rf, am_k_int, am_k_ref, am_k_null, am_k_rf, am_k_none, am_k_long, am_k_double, rf_some, rf_none, KT_ret, KT_void, XP_ap, true_and, and_true, Nat.reduceAdd, Nat.reduceEqDiff, reduceIte, if_true, if_false, eq_self, true_or, or_true, forall_const, not_true_eq_false, not_false_eq_true]
  refine f_nm hT hp (by omega) (by omega) (hR.cap (by omega) (by omega)) (fun hl => ?_) (fun hl => ?_)
  case refine_2 =>
    rw [hl] at hP
    cases hP
    rw [KT_thr rfl]
    exact hQ.1 rfl _ _ (FP.refl.at_.new (by omega)) (by rw [gN_sN, gN_sI]; omega)
  rw [if_pos hl] at hP
  have hl0 := lt_lt hl
  simp only [x30_0, x30_1, x30_3, x30_6, x30_7, x30_9, x30_12, x30_13, x30_15, x30_18, x30_19, x30_21, x30_24, x30_25, x30_27, x30_30, x30_31, x30_34, x30_35, x30_36, x30_37, x30_40, x30_41, x30_42, x30_45, x30_46, x30_48, x30_51, x30_52, x30_55, x30_56, x30_57, x30_59, x30_62, x30_65, x30_66, x30_69, x30_70, x30_73, x30_74, x30_77, x30_78, x30_79, x30_81, x30_84, x30_87, x30_88, x30_91, x30_92, x30_95, x30_98, x30_98f, x30_99, x30_100, x30_101, x30_102, x30_105, x30_108, x30_109, x30_110, x30_112, x30_115, x30_116, x30_119, x30_120, x30_121, x30_124, x30_125, x30_126, x30_128, x30_131, x30_132, x30_134, x30_137, x30_140, x30_141, x30_144, x30_145, x30_148, x30_151, x30_151f, x30_152, x30_153, x30_154, x30_157, x30_160, x30_161, x30_162, x30_164, x30_167, x30_170, x30_171, x30_173, x30_176, x30_177, x30_180, x30_182, x30_185, x30_186, x30_189, x30_190, x30_194, x30_197, x30_198, x30_199, x30_201, x30_204, x30_207, x30_208, x30_211, x30_212, x30_215, x30_218, x30_218f, x30_219, x30_220, x30_221, x30_222, x30_225, x30_226, x30_228, x30_231, x30_232, x30_235, x30_236, x30_239, gI_sI, gI_sR, gI_sA, gI_sL, gI_sF, gI_sQ, gI_sG, gI_sN, gR_sI, gR_sR, gR_sA, gR_sL, gR_sF, gR_sQ, gR_sG, gR_sN, gA_sI, gA_sR, gA_sA, gA_sL, gA_sF, gA_sQ, gA_sG, gA_sN, gL_sI, gL_sR, gL_sA, gL_sL, gL_sF, gL_sQ, gL_sG, gL_sN, gF_sI, gF_sR, gF_sA, gF_sL, gF_sF, gF_sQ, gF_sG, gF_sN, gQ_sI, gQ_sR, gQ_sA, gQ_sL, gQ_sF, gQ_sQ, gQ_sG, gQ_sN, gN_sI, gN_sR, gN_sA, gN_sL, gN_sF, gN_sQ, gN_sG, gN_sN, gS_sI, gS_sR, gS_sA, gS_sL, gS_sF, gS_sQ, gS_sG, gS_sN, gO_sI, gO_sR, gO_sA, gO_sL, gO_sF, gO_sQ, gO_sN, isR_ref, isR_null, isR_rf, isR2_ref, isR2_null, isR2_rf, am_k_int, am_k_ref, am_k_null, am_k_rf, am_k_none, am_k_long, am_k_double, rf_some, rf_none, KT_ret, KT_void, XP_ap, true_and, and_true, Nat.reduceAdd, Nat.reduceEqDiff, reduceIte, if_true, if_false, eq_self, true_or, or_true, forall_const, not_true_eq_false, not_false_eq_true]
  have hF1 : FP D (sI D 141 (i32 (sk tx n p + 1))) := FP.refl.at_
  have s1 := sk_lt (tx := tx) (n := n) (p := sk tx n p + 1) (by omega)
  have t1 := sk_le (tx := tx) (n := n) (p := sk tx n p + 1)
  unfold et at hP
  refine ⟨fun _ => ?_, fun h => absurd h hc92⟩
  refine f_eat (hF1.tf hT) (p := sk tx n p + 1) rfl (by omega) (by omega) (fun hh => ?_) (fun hh => ?_)
  case refine_2 =>
    rw [if_neg hh] at hP
    cases hP
    simp only [x30_0, x30_1, x30_3, x30_6, x30_7, x30_9, x30_12, x30_13, x30_15, x30_18, x30_19, x30_21, x30_24, x30_25, x30_27, x30_30, x30_31, x30_34, x30_35, x30_36, x30_37, x30_40, x30_41, x30_42, x30_45, x30_46, x30_48, x30_51, x30_52, x30_55, x30_56, x30_57, x30_59, x30_62, x30_65, x30_66, x30_69, x30_70, x30_73, x30_74, x30_77, x30_78, x30_79, x30_81, x30_84, x30_87, x30_88, x30_91, x30_92, x30_95, x30_98, x30_98f, x30_99, x30_100, x30_101, x30_102, x30_105, x30_108, x30_109, x30_110, x30_112, x30_115, x30_116, x30_119, x30_120, x30_121, x30_124, x30_125, x30_126, x30_128, x30_131, x30_132, x30_134, x30_137, x30_140, x30_141, x30_144, x30_145, x30_148, x30_151, x30_151f, x30_152, x30_153, x30_154, x30_157, x30_160, x30_161, x30_162, x30_164, x30_167, x30_170, x30_171, x30_173, x30_176, x30_177, x30_180, x30_182, x30_185, x30_186, x30_189, x30_190, x30_194, x30_197, x30_198, x30_199, x30_201, x30_204, x30_207, x30_208, x30_211, x30_212, x30_215, x30_218, x30_218f, x30_219, x30_220, x30_221, x30_222, x30_225, x30_226, x30_228, x30_231, x30_232, x30_235, x30_236, x30_239, gI_sI, gI_sR, gI_sA, gI_sL, gI_sF, gI_sQ, gI_sG, gI_sN, gR_sI, gR_sR, gR_sA, gR_sL, gR_sF, gR_sQ, gR_sG, gR_sN, gA_sI, gA_sR, gA_sA, gA_sL, gA_sF, gA_sQ, gA_sG, gA_sN, gL_sI, gL_sR, gL_sA, gL_sL, gL_sF, gL_sQ, gL_sG, gL_sN, gF_sI, gF_sR, gF_sA, gF_sL, gF_sF, gF_sQ, gF_sG, gF_sN, gQ_sI, gQ_sR, gQ_sA, gQ_sL, gQ_sF, gQ_sQ, gQ_sG, gQ_sN, gN_sI, gN_sR, gN_sA, gN_sL, gN_sF, gN_sQ, gN_sG, gN_sN, gS_sI, gS_sR, gS_sA, gS_sL, gS_sF, gS_sQ, gS_sG, gS_sN, gO_sI, gO_sR, gO_sA, gO_sL, gO_sF, gO_sQ, gO_sN, isR_ref, isR_null, isR_rf, isR2_ref, isR2_null, isR2_rf, am_k_int, am_k_ref, am_k_null, am_k_rf, am_k_none, am_k_long, am_k_double, rf_some, rf_none, KT_ret, KT_void, XP_ap, true_and, and_true, Nat.reduceAdd, Nat.reduceEqDiff, reduceIte, if_true, if_false, eq_self, true_or, or_true, forall_const, not_true_eq_false, not_false_eq_true]
    refine ⟨f_ill (by omega) (RM.cap (hR.go (j := 1) hF1.at_ (by rw [gN_sI, gN_sI]; omega)) (by omega) (by omega)) (fun h => by cases h) (fun _ => ?_), fun h => h.elim⟩
    rw [KT_thr rfl]
    exact hQ.1 rfl _ _ (hF1.at_.new (by omega)) (by rw [gN_sN, gN_sI, gN_sI]; omega)
  rw [if_pos hh] at hP
  have l1 := ch_lt hh (by decide)
  simp only [x30_0, x30_1, x30_3, x30_6, x30_7, x30_9, x30_12, x30_13, x30_15, x30_18, x30_19, x30_21, x30_24, x30_25, x30_27, x30_30, x30_31, x30_34, x30_35, x30_36, x30_37, x30_40, x30_41, x30_42, x30_45, x30_46, x30_48, x30_51, x30_52, x30_55, x30_56, x30_57, x30_59, x30_62, x30_65, x30_66, x30_69, x30_70, x30_73, x30_74, x30_77, x30_78, x30_79, x30_81, x30_84, x30_87, x30_88, x30_91, x30_92, x30_95, x30_98, x30_98f, x30_99, x30_100, x30_101, x30_102, x30_105, x30_108, x30_109, x30_110, x30_112, x30_115, x30_116, x30_119, x30_120, x30_121, x30_124, x30_125, x30_126, x30_128, x30_131, x30_132, x30_134, x30_137, x30_140, x30_141, x30_144, x30_145, x30_148, x30_151, x30_151f, x30_152, x30_153, x30_154, x30_157, x30_160, x30_161, x30_162, x30_164, x30_167, x30_170, x30_171, x30_173, x30_176, x30_177, x30_180, x30_182, x30_185, x30_186, x30_189, x30_190, x30_194, x30_197, x30_198, x30_199, x30_201, x30_204, x30_207, x30_208, x30_211, x30_212, x30_215, x30_218, x30_218f, x30_219, x30_220, x30_221, x30_222, x30_225, x30_226, x30_228, x30_231, x30_232, x30_235, x30_236, x30_239, gI_sI, gI_sR, gI_sA, gI_sL, gI_sF, gI_sQ, gI_sG, gI_sN, gR_sI, gR_sR, gR_sA, gR_sL, gR_sF, gR_sQ, gR_sG, gR_sN, gA_sI, gA_sR, gA_sA, gA_sL, gA_sF, gA_sQ, gA_sG, gA_sN, gL_sI, gL_sR, gL_sA, gL_sL, gL_sF, gL_sQ, gL_sG, gL_sN, gF_sI, gF_sR, gF_sA, gF_sL, gF_sF, gF_sQ, gF_sG, gF_sN, gQ_sI, gQ_sR, gQ_sA, gQ_sL, gQ_sF, gQ_sQ, gQ_sG, gQ_sN, gN_sI, gN_sR, gN_sA, gN_sL, gN_sF, gN_sQ, gN_sG, gN_sN, gS_sI, gS_sR, gS_sA, gS_sL, gS_sF, gS_sQ, gS_sG, gS_sN, gO_sI, gO_sR, gO_sA, gO_sL, gO_sF, gO_sQ, gO_sN, isR_ref, isR_null, isR_rf, isR2_ref, isR2_null, isR2_rf, am_k_int, am_k_ref, am_k_null, am_k_rf, am_k_none, am_k_long, am_k_double, rf_some, rf_none, KT_ret, KT_void, XP_ap, true_and, and_true, Nat.reduceAdd, Nat.reduceEqDiff, reduceIte, if_true, if_false, eq_self, true_or, or_true, forall_const, not_true_eq_false, not_false_eq_true]
  refine ⟨fun h => absurd h (by decide), fun _ => ?_⟩
  rw [sI_sI]
  generalize hD2 : sI D 141 (i32 (sk tx n (sk tx n p + 1) + 1)) = D2
  have hF2 : FP D D2 := by rw [← hD2]; exact FP.refl.at_
  have n2 : gN D2 = gN D := by rw [← hD2]; rfl
  have a2 : gI D2 141 = i32 (sk tx n (sk tx n p + 1) + 1) := by rw [← hD2]; rfl
  have c2 : gI D2 142 = i32 dep := by rw [← hD2]; exact hdep
  generalize hp2 : sk tx n (sk tx n p + 1) + 1 = p2 at *
  dsimp only at hP
  have nmi := i32_of hpos
  rw [← nmi]
  rw [← nmi] at hfit
  refine ⟨fun h64 => ?_, fun h64 => ?_⟩
  · rw [if_neg h64] at hP
    refine f_ill (by omega) (RM.cap (hR.go (j := 1) hF2 (by omega)) (by omega) (by omega)) (fun _ => ?_) (fun h => absurd rfl h)
    simp only [KT_void, Nat.reduceAdd]
    refine i_letB (acc := acc) ih hc hfit ?_ (hF2.tf hT) a2 (by omega) c2 hd16 (hR.go hF2 (by omega)) hd' (hQ.go hF2 (by omega) (by omega) (by omega))
    simp only [if_neg h64]
    exact hP
  · rw [if_pos h64] at hP
    have s2 := sk_lt (tx := tx) (n := n) (p := p2) (by omega)
    have t2 := sk_le (tx := tx) (n := n) (p := p2)
    refine f_peek (hF2.tf hT) a2 (by omega) (by omega) ?_
    simp only [x30_0, x30_1, x30_3, x30_6, x30_7, x30_9, x30_12, x30_13, x30_15, x30_18, x30_19, x30_21, x30_24, x30_25, x30_27, x30_30, x30_31, x30_34, x30_35, x30_36, x30_37, x30_40, x30_41, x30_42, x30_45, x30_46, x30_48, x30_51, x30_52, x30_55, x30_56, x30_57, x30_59, x30_62, x30_65, x30_66, x30_69, x30_70, x30_73, x30_74, x30_77, x30_78, x30_79, x30_81, x30_84, x30_87, x30_88, x30_91, x30_92, x30_95, x30_98, x30_98f, x30_99, x30_100, x30_101, x30_102, x30_105, x30_108, x30_109, x30_110, x30_112, x30_115, x30_116, x30_119, x30_120, x30_121, x30_124, x30_125, x30_126, x30_128, x30_131, x30_132, x30_134, x30_137, x30_140, x30_141, x30_144, x30_145, x30_148, x30_151, x30_151f, x30_152, x30_153, x30_154, x30_157, x30_160, x30_161, x30_162, x30_164, x30_167, x30_170, x30_171, x30_173, x30_176, x30_177, x30_180, x30_182, x30_185, x30_186, x30_189, x30_190, x30_194, x30_197, x30_198, x30_199, x30_201, x30_204, x30_207, x30_208, x30_211, x30_212, x30_215, x30_218, x30_218f, x30_219, x30_220, x30_221, x30_222, x30_225, x30_226, x30_228, x30_231, x30_232, x30_235, x30_236, x30_239, gI_sI, gI_sR, gI_sA, gI_sL, gI_sF, gI_sQ, gI_sG, gI_sN, gR_sI, gR_sR, gR_sA, gR_sL, gR_sF, gR_sQ, gR_sG, gR_sN, gA_sI, gA_sR, gA_sA, gA_sL, gA_sF, gA_sQ, gA_sG, gA_sN, gL_sI, gL_sR, gL_sA, gL_sL, gL_sF, gL_sQ, gL_sG, gL_sN, gF_sI, gF_sR, gF_sA, gF_sL, gF_sF, gF_sQ, gF_sG, gF_sN, gQ_sI, gQ_sR, gQ_sA, gQ_sL, gQ_sF, gQ_sQ, gQ_sG, gQ_sN, gN_sI, gN_sR, gN_sA, gN_sL, gN_sF, gN_sQ, gN_sG, gN_sN, gS_sI, gS_sR, gS_sA, gS_sL, gS_sF, gS_sQ, gS_sG, gS_sN, gO_sI, gO_sR, gO_sA, gO_sL, gO_sF, gO_sQ, gO_sN, isR_ref, isR_null, isR_rf, isR2_ref, isR2_null, isR2_rf, am_k_int, am_k_ref, am_k_null, am_k_rf, am_k_none, am_k_long, am_k_double, rf_some, rf_none, KT_ret, KT_void, XP_ap, true_and, and_true, Nat.reduceAdd, Nat.reduceEqDiff, reduceIte, if_true, if_false, eq_self, true_or, or_true, forall_const, not_true_eq_false, not_false_eq_true]
    refine ⟨fun h92 => ?_, fun h92 => ?_⟩
    · rw [if_pos h92] at hP
      refine f_ill (by omega) (RM.cap (hR.go (j := 1) hF2.at_ (by rw [gN_sI]; omega)) (by omega) (by omega)) (fun _ => ?_) (fun h => absurd rfl h)
      simp only [KT_void, Nat.reduceAdd]
      refine i_letB (acc := acc) (p := sk tx n p2) ih hc hfit ?_ (hF2.at_.tf hT) rfl (by omega) c2 hd16 (hR.go hF2.at_ (by rw [gN_sI]; omega)) hd' (hQ.go hF2.at_ (by omega) (by omega) (by rw [gN_sI]; omega))
      simp only [if_pos h64]
      exact hP
    · rw [if_neg h92] at hP
      cases hP
      refine f_ill (by omega) (RM.cap (hR.go (j := 1) hF2.at_ (by rw [gN_sI]; omega)) (by omega) (by omega)) (fun h => by cases h) (fun _ => ?_)
      rw [KT_thr rfl]
      exact hQ.1 rfl _ _ (hF2.at_.new (by omega)) (by rw [gN_sN, gN_sI]; omega)
end RP
