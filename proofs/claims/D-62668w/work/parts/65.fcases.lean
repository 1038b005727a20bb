/-! FunDesk, reading: cases, 2 -/
set_option maxRecDepth 100000
section RK
variable {d : Nat} {D : sS} {Q : am_O → am_H → Prop} {tx : Nat → Int32} {n p dep f : Nat} {bn : Int32} {acc : tE} {r : Option (tE × Nat × Int32)}
theorem cs_loop {c b ps es d' f : Nat} (hT : TF D tx n) (hpn : p ≤ n) (hd16 : dep ≤ 16) (hR : RM D (3 * (n - p) + 4)) (ih : ∀ j, j ≤ f → CT tx n j) (hd' : 3 * f + 4 ≤ d') (hc : 82 + gN D ≤ c) (hps : 82 + gN D ≤ ps) (hes : 82 + gN D ≤ es) (hcp : ¬ c = ps) (hce : ¬ c = es) (hpe : ¬ ps = es) : ∀ j, j ≤ f → ∀ (m p1 : Nat) (D1 : sS) (fp fe : Nat → Value) (rc : Option (tE × Nat × Int32)), PR tx n j 9 p1 dep 0 (.natCast m) = some rc → m ≤ 5 → FP D D1 → p1 ≤ n → gI D1 141 = i32 p1 → gI D1 142 = i32 dep → gN D1 + 3 * p + 1 ≤ gN D + 3 * p1 → c < 82 + gN D1 → ps < 82 + gN D1 → es < 82 + gN D1 → gO D1 c = some (.inr (10, [.ref b, .ref ps, .ref es, .int (i32 m)])) → gO D1 ps = some (.inl (7, 5, fp)) → gO D1 es = some (.inl (10, 5, fe)) →
    (rc = none → ∀ D' x, FP D D' → gN D' ≤ gN D + 3 * (n - p) + 1 → Q (.inr (x, 23)) (toH D')) →
    (∀ cl p' b' D2 fp' fe', rok cl p' b' = some rc → FP D D2 → p' ≤ n → gI D2 141 = i32 p' → gI D2 142 = i32 dep → gN D1 ≤ gN D2 → gN D2 + 3 * p + 1 ≤ gN D + 3 * p' → (∀ b, b < 82 + gN D1 → ¬ b = c → ¬ b = ps → ¬ b = es → gO D2 b = gO D1 b) → gO D2 c = some (.inr (10, [.ref b, .ref ps, .ref es, .int (i32 (m + cln cl))])) → gO D2 ps = some (.inl (7, 5, fp')) → gO D2 es = some (.inl (10, 5, fe')) → m + cln cl ≤ 5 → (∀ i, i < m → fp' i = fp i ∧ fe' i = fe i) → EX (gO D2) (82 + gN D1) (82 + gN D2) cl (some (fp', fe')) m → XW 46 d' Q 31 [some (.ref 25), some (.ref c), some (.int 0)] [] (toH D2)) → XW 46 d' Q 31 [some (.ref 25), some (.ref c), some (.int 1)] [] (toH D1) := by
  have hn := hT.2.1
  intro j
  induction j with
  | zero => intro _ m p1 D1 fp fe rc h; cases h
  | succ j ij =>
    intro hj m p1 D1 fp fe rc hP hm hF hp1 h141 h142 hN hc1 hps1 hes1 hoc hop hoe hthr hret
    rw [PR_9] at hP
    dsimp only at hP
    rw [x46_31]
    simp only [x46_0, x46_3, x46_3f, x46_4, x46_5, x46_8, x46_11, x46_12, x46_13, x46_15, x46_18, x46_21, x46_22, x46_25, x46_26, x46_29, x46_30, x46_32, x46_35, x46_36, x46_39, x46_40, x46_43, x46_44, x46_47, x46_48, x46_51, x46_52, x46_53, x46_56, x46_57, x46_60, x46_61, x46_64, x46_65, x46_68, x46_69, x46_70, x46_72, x46_75, x46_78, x46_79, x46_82, x46_83, x46_86, x46_87, x46_90, x46_91, x46_94, x46_95, x46_98, x46_99, x46_100, x46_100f, x46_101, x46_104, x46_105, x46_106, x46_109, x46_110, x46_112, x46_115, x46_116, x46_119, x46_120, x46_122, x46_125, x46_128, x46_129, x46_132, x46_133, x46_136, x46_137, gI_sI, gI_sR, gI_sA, gI_sL, gI_sF, gI_sQ, gI_sG, gI_sN, gR_sI, gR_sR, gR_sA, gR_sL, gR_sF, gR_sQ, gR_sG, gR_sN, gA_sI, gA_sR, gA_sA, gA_sL, gA_sF, gA_sQ, gA_sG, gA_sN, gL_sI, gL_sR, gL_sA, gL_sL, gL_sF, gL_sQ, gL_sG, gL_sN, gF_sI, gF_sR, gF_sA, gF_sL, gF_sF, gF_sQ, gF_sG, gF_sN, gQ_sI, gQ_sR, gQ_sA, gQ_sL, gQ_sF, gQ_sQ, gQ_sG, gQ_sN, gN_sI, gN_sR, gN_sA, gN_sL, gN_sF, gN_sQ, gN_sG, gN_sN, gS_sI, gS_sR, gS_sA, gS_sL, gS_sF, gS_sQ, gS_sG, gS_sN, gO_sI, gO_sR, gO_sA, gO_sL, gO_sF, gO_sQ, gO_sN, isR_ref, isR_null, isR_rf, isR2_ref, isR2_null, isR2_rf, am_k_int, am_k_ref, am_k_null, am_k_rf, am_k_none, am_k_long, am_k_double, rf_some, rf_none, KT_ret, KT_void, XP_ap, true_and, and_true, Nat.reduceAdd, Nat.reduceEqDiff, reduceIte, if_true, if_false, eq_self, true_or, or_true, forall_const, not_true_eq_false, not_false_eq_true, fO_of (k := 3) hoc rfl rfl]
    refine ⟨fun h => absurd h (by decide), fun _ => ?_⟩
    have e5 : (i32 m < 5) ↔ m < 5 := i32_lt (a := m) (b := 5) (by omega) (by omega)
    rw [e5]
    refine ⟨fun h5 => ?_, fun h5 => ?_⟩
    · rw [if_neg (by omega)] at hP
      have hR1 : RM D1 (3 * (n - p1) + 4) := hR.go hF (by omega)
      refine f_ill (by omega) (hR1.cap (by omega) (by omega)) (fun _ => ?_) (fun h => absurd rfl h)
      simp only [x46_0, x46_3, x46_3f, x46_4, x46_5, x46_8, x46_11, x46_12, x46_13, x46_15, x46_18, x46_21, x46_22, x46_25, x46_26, x46_29, x46_30, x46_32, x46_35, x46_36, x46_39, x46_40, x46_43, x46_44, x46_47, x46_48, x46_51, x46_52, x46_53, x46_56, x46_57, x46_60, x46_61, x46_64, x46_65, x46_68, x46_69, x46_70, x46_72, x46_75, x46_78, x46_79, x46_82, x46_83, x46_86, x46_87, x46_90, x46_91, x46_94, x46_95, x46_98, x46_99, x46_100, x46_100f, x46_101, x46_104, x46_105, x46_106, x46_109, x46_110, x46_112, x46_115, x46_116, x46_119, x46_120, x46_122, x46_125, x46_128, x46_129, x46_132, x46_133, x46_136, x46_137, gI_sI, gI_sR, gI_sA, gI_sL, gI_sF, gI_sQ, gI_sG, gI_sN, gR_sI, gR_sR, gR_sA, gR_sL, gR_sF, gR_sQ, gR_sG, gR_sN, gA_sI, gA_sR, gA_sA, gA_sL, gA_sF, gA_sQ, gA_sG, gA_sN, gL_sI, gL_sR, gL_sA, gL_sL, gL_sF, gL_sQ, gL_sG, gL_sN, gF_sI, gF_sR, gF_sA, gF_sL, gF_sF, gF_sQ, gF_sG, gF_sN, gQ_sI, gQ_sR, gQ_sA, gQ_sL, gQ_sF, gQ_sQ, gQ_sG, gQ_sN, gN_sI, gN_sR, gN_sA, gN_sL, gN_sF, gN_sQ, gN_sG, gN_sN, gS_sI, gS_sR, gS_sA, gS_sL, gS_sF, gS_sQ, gS_sG, gS_sN, gO_sI, gO_sR, gO_sA, gO_sL, gO_sF, gO_sQ, gO_sN, isR_ref, isR_null, isR_rf, isR2_ref, isR2_null, isR2_rf, am_k_int, am_k_ref, am_k_null, am_k_rf, am_k_none, am_k_long, am_k_double, rf_some, rf_none, KT_ret, KT_void, XP_ap, true_and, and_true, Nat.reduceAdd, Nat.reduceEqDiff, reduceIte, if_true, if_false, eq_self, true_or, or_true, forall_const, not_true_eq_false, not_false_eq_true, fO_of (D := sI D1 143 0) (k := 1) hoc rfl rfl, fO_of (D := sI D1 143 0) (k := 3) hoc rfl rfl]
      have hFb : FP D1 (sI D1 143 0) := FP.refl.bnd
      refine (ih j (by omega)).call (g := 7) hP (by omega) ((hF.trans hFb).tf hT) h141 hp1 h142 hd16 (fun _ => rfl) (hR1.go hFb (by rw [gN_sI]; omega)) (by omega) (fun hr D2 x hF2 hN2 => by rw [KT_thr rfl]; exact hthr hr D2 x (hF.trans (hFb.trans hF2)) (by rw [gN_sI] at hN2; omega)) ?_
      intro q p2 b2 D2 a2 hP2 hF2 h141 h142 _ hp2 hlt2 hN2 hX2 hT2
      replace hF2 := hFb.trans hF2
      rw [gN_sI] at hN2
      have hm2 := hF2.2.2.2.2.2.2.2.1
      replace hX2 : PX (gO D2) (82 + gN D1) (82 + gN D2) q a2 := hX2
      obtain ⟨ra, rb, cv, fs, rc1, rd⟩ := hX2.root
      have isp : isRec ps = false := isRec_hi (by omega)
      have ise : isRec es = false := isRec_hi (by omega)
      have op2 : gO D2 ps = some (.inl (7, 5, fp)) := by rw [hF2.obj hps1]; exact hop
      simp only [x46_0, x46_3, x46_3f, x46_4, x46_5, x46_8, x46_11, x46_12, x46_13, x46_15, x46_18, x46_21, x46_22, x46_25, x46_26, x46_29, x46_30, x46_32, x46_35, x46_36, x46_39, x46_40, x46_43, x46_44, x46_47, x46_48, x46_51, x46_52, x46_53, x46_56, x46_57, x46_60, x46_61, x46_64, x46_65, x46_68, x46_69, x46_70, x46_72, x46_75, x46_78, x46_79, x46_82, x46_83, x46_86, x46_87, x46_90, x46_91, x46_94, x46_95, x46_98, x46_99, x46_100, x46_100f, x46_101, x46_104, x46_105, x46_106, x46_109, x46_110, x46_112, x46_115, x46_116, x46_119, x46_120, x46_122, x46_125, x46_128, x46_129, x46_132, x46_133, x46_136, x46_137, gI_sI, gI_sR, gI_sA, gI_sL, gI_sF, gI_sQ, gI_sG, gI_sN, gR_sI, gR_sR, gR_sA, gR_sL, gR_sF, gR_sQ, gR_sG, gR_sN, gA_sI, gA_sR, gA_sA, gA_sL, gA_sF, gA_sQ, gA_sG, gA_sN, gL_sI, gL_sR, gL_sA, gL_sL, gL_sF, gL_sQ, gL_sG, gL_sN, gF_sI, gF_sR, gF_sA, gF_sL, gF_sF, gF_sQ, gF_sG, gF_sN, gQ_sI, gQ_sR, gQ_sA, gQ_sL, gQ_sF, gQ_sQ, gQ_sG, gQ_sN, gN_sI, gN_sR, gN_sA, gN_sL, gN_sF, gN_sQ, gN_sG, gN_sN, gS_sI, gS_sR, gS_sA, gS_sL, gS_sF, gS_sQ, gS_sG, gS_sN, gO_sI, gO_sR, gO_sA, gO_sL, gO_sF, gO_sQ, gO_sN, isR_ref, isR_null, isR_rf, isR2_ref, isR2_null, isR2_rf, am_k_int, am_k_ref, am_k_null, am_k_rf, am_k_none, am_k_long, am_k_double, rf_some, rf_none, KT_ret, KT_void, XP_ap, true_and, and_true, Nat.reduceAdd, Nat.reduceEqDiff, reduceIte, if_true, if_false, eq_self, true_or, or_true, forall_const, not_true_eq_false, not_false_eq_true, isp, wR_of op2 ⟨by decide, by decide⟩ h5 (by decide) (kO_of (by omega) rc1 rd)]
      generalize hD3 : sG D2 ps (.inl (7, 5, updV fp m (.ref a2))) = D3
      have hF3 : FP D D3 := by rw [← hD3]; exact FP.wr hps (hF.trans hF2)
      have n3 : gN D3 = gN D2 := by rw [← hD3]; rfl
      have i3 : ∀ q, gI D3 q = gI D2 q := fun q => by rw [← hD3]; rfl
      have o3 : ∀ b, ¬ b = ps → gO D3 b = gO D2 b := fun b hb => by rw [← hD3, gO_sG op2, if_neg hb]
      have o3p : gO D3 ps = some (.inl (7, 5, updV fp m (.ref a2))) := by rw [← hD3]; exact gO_gg op2
      have hs := sk_lt (tx := tx) hp2
      have hs2 := sk_le (tx := tx) (n := n) (p := p2)
      unfold et at hP2
      refine f_eat (hF3.tf hT) (p := p2) (by rw [i3]; exact h141) (by omega) (by omega) (fun hh => ?_) (fun hh => ?_)
      · rw [if_pos hh] at hP2
        have hl := ch_lt hh (by decide)
        simp only [x46_0, x46_3, x46_3f, x46_4, x46_5, x46_8, x46_11, x46_12, x46_13, x46_15, x46_18, x46_21, x46_22, x46_25, x46_26, x46_29, x46_30, x46_32, x46_35, x46_36, x46_39, x46_40, x46_43, x46_44, x46_47, x46_48, x46_51, x46_52, x46_53, x46_56, x46_57, x46_60, x46_61, x46_64, x46_65, x46_68, x46_69, x46_70, x46_72, x46_75, x46_78, x46_79, x46_82, x46_83, x46_86, x46_87, x46_90, x46_91, x46_94, x46_95, x46_98, x46_99, x46_100, x46_100f, x46_101, x46_104, x46_105, x46_106, x46_109, x46_110, x46_112, x46_115, x46_116, x46_119, x46_120, x46_122, x46_125, x46_128, x46_129, x46_132, x46_133, x46_136, x46_137, gI_sI, gI_sR, gI_sA, gI_sL, gI_sF, gI_sQ, gI_sG, gI_sN, gR_sI, gR_sR, gR_sA, gR_sL, gR_sF, gR_sQ, gR_sG, gR_sN, gA_sI, gA_sR, gA_sA, gA_sL, gA_sF, gA_sQ, gA_sG, gA_sN, gL_sI, gL_sR, gL_sA, gL_sL, gL_sF, gL_sQ, gL_sG, gL_sN, gF_sI, gF_sR, gF_sA, gF_sL, gF_sF, gF_sQ, gF_sG, gF_sN, gQ_sI, gQ_sR, gQ_sA, gQ_sL, gQ_sF, gQ_sQ, gQ_sG, gQ_sN, gN_sI, gN_sR, gN_sA, gN_sL, gN_sF, gN_sQ, gN_sG, gN_sN, gS_sI, gS_sR, gS_sA, gS_sL, gS_sF, gS_sQ, gS_sG, gS_sN, gO_sI, gO_sR, gO_sA, gO_sL, gO_sF, gO_sQ, gO_sN, isR_ref, isR_null, isR_rf, isR2_ref, isR2_null, isR2_rf, am_k_int, am_k_ref, am_k_null, am_k_rf, am_k_none, am_k_long, am_k_double, rf_some, rf_none, KT_ret, KT_void, XP_ap, true_and, and_true, Nat.reduceAdd, Nat.reduceEqDiff, reduceIte, if_true, if_false, eq_self, true_or, or_true, forall_const, not_true_eq_false, not_false_eq_true]
        refine ⟨fun _ => ?_, fun h => absurd h (by decide)⟩
        refine f_ill (by omega) (RM.cap (hR.go (j := 1) hF3.at_ (by rw [gN_sI]; omega)) (by omega) (by omega)) (fun _ => ?_) (fun h => absurd rfl h)
        generalize hD4 : sI D3 141 (i32 (sk tx n p2 + 1)) = D4
        have hF4 : FP D D4 := by rw [← hD4]; exact hF3.at_
        have n4 : gN D4 = gN D2 := by rw [← hD4, gN_sI]; exact n3
        have o4 : ∀ b, ¬ b = ps → gO D4 b = gO D2 b := fun b hb => by rw [← hD4]; exact o3 b hb
        have o4p : gO D4 ps = some (.inl (7, 5, updV fp m (.ref a2))) := by rw [← hD4]; exact o3p
        have o4c : gO D4 c = some (.inr (10, [.ref b, .ref ps, .ref es, .int (i32 m)])) := by rw [o4 c hcp, hF2.obj hc1]; exact hoc
        have o4e : gO D4 es = some (.inl (10, 5, fe)) := by rw [o4 es (fun z => hpe z.symm), hF2.obj hes1]; exact hoe
        have h141 : gI D4 141 = i32 (sk tx n p2 + 1) := by rw [← hD4]; rfl
        have h142 : gI D4 142 = i32 dep := by rw [← hD4]; exact (i3 142).trans h142
        simp only [x46_0, x46_3, x46_3f, x46_4, x46_5, x46_8, x46_11, x46_12, x46_13, x46_15, x46_18, x46_21, x46_22, x46_25, x46_26, x46_29, x46_30, x46_32, x46_35, x46_36, x46_39, x46_40, x46_43, x46_44, x46_47, x46_48, x46_51, x46_52, x46_53, x46_56, x46_57, x46_60, x46_61, x46_64, x46_65, x46_68, x46_69, x46_70, x46_72, x46_75, x46_78, x46_79, x46_82, x46_83, x46_86, x46_87, x46_90, x46_91, x46_94, x46_95, x46_98, x46_99, x46_100, x46_100f, x46_101, x46_104, x46_105, x46_106, x46_109, x46_110, x46_112, x46_115, x46_116, x46_119, x46_120, x46_122, x46_125, x46_128, x46_129, x46_132, x46_133, x46_136, x46_137, gI_sI, gI_sR, gI_sA, gI_sL, gI_sF, gI_sQ, gI_sG, gI_sN, gR_sI, gR_sR, gR_sA, gR_sL, gR_sF, gR_sQ, gR_sG, gR_sN, gA_sI, gA_sR, gA_sA, gA_sL, gA_sF, gA_sQ, gA_sG, gA_sN, gL_sI, gL_sR, gL_sA, gL_sL, gL_sF, gL_sQ, gL_sG, gL_sN, gF_sI, gF_sR, gF_sA, gF_sL, gF_sF, gF_sQ, gF_sG, gF_sN, gQ_sI, gQ_sR, gQ_sA, gQ_sL, gQ_sF, gQ_sQ, gQ_sG, gQ_sN, gN_sI, gN_sR, gN_sA, gN_sL, gN_sF, gN_sQ, gN_sG, gN_sN, gS_sI, gS_sR, gS_sA, gS_sL, gS_sF, gS_sQ, gS_sG, gS_sN, gO_sI, gO_sR, gO_sA, gO_sL, gO_sF, gO_sQ, gO_sN, isR_ref, isR_null, isR_rf, isR2_ref, isR2_null, isR2_rf, am_k_int, am_k_ref, am_k_null, am_k_rf, am_k_none, am_k_long, am_k_double, rf_some, rf_none, KT_ret, KT_void, XP_ap, true_and, and_true, Nat.reduceAdd, Nat.reduceEqDiff, reduceIte, if_true, if_false, eq_self, true_or, or_true, forall_const, not_true_eq_false, not_false_eq_true, fO_of (k := 2) o4c rfl rfl, fO_of (k := 3) o4c rfl rfl]
        refine (ih j (by omega)).call (g := 0) hP2 (by omega) (hF4.tf hT) h141 (by omega) h142 hd16 (by omega) (hR.go hF4 (by omega)) (by omega) (fun hr D5 x hF5 hN5 => by rw [KT_thr rfl]; exact hthr hr D5 x (hF4.trans hF5) (by omega)) ?_
        intro e p3 b3 D5 a5 hP5 hF5 h141 h142 _ hp5 hlt5 hN5 hX5 hT5
        have hm5 := hF5.2.2.2.2.2.2.2.1
        replace hX5 : EX (gO D5) (82 + gN D4) (82 + gN D5) e none a5 := hX5
        obtain ⟨sa, sb, cv5, fs5, sc, sd⟩ := hX5.root
        have o5e : gO D5 es = some (.inl (10, 5, fe)) := by rw [hF5.obj (by omega)]; exact o4e
        simp only [x46_0, x46_3, x46_3f, x46_4, x46_5, x46_8, x46_11, x46_12, x46_13, x46_15, x46_18, x46_21, x46_22, x46_25, x46_26, x46_29, x46_30, x46_32, x46_35, x46_36, x46_39, x46_40, x46_43, x46_44, x46_47, x46_48, x46_51, x46_52, x46_53, x46_56, x46_57, x46_60, x46_61, x46_64, x46_65, x46_68, x46_69, x46_70, x46_72, x46_75, x46_78, x46_79, x46_82, x46_83, x46_86, x46_87, x46_90, x46_91, x46_94, x46_95, x46_98, x46_99, x46_100, x46_100f, x46_101, x46_104, x46_105, x46_106, x46_109, x46_110, x46_112, x46_115, x46_116, x46_119, x46_120, x46_122, x46_125, x46_128, x46_129, x46_132, x46_133, x46_136, x46_137, gI_sI, gI_sR, gI_sA, gI_sL, gI_sF, gI_sQ, gI_sG, gI_sN, gR_sI, gR_sR, gR_sA, gR_sL, gR_sF, gR_sQ, gR_sG, gR_sN, gA_sI, gA_sR, gA_sA, gA_sL, gA_sF, gA_sQ, gA_sG, gA_sN, gL_sI, gL_sR, gL_sA, gL_sL, gL_sF, gL_sQ, gL_sG, gL_sN, gF_sI, gF_sR, gF_sA, gF_sL, gF_sF, gF_sQ, gF_sG, gF_sN, gQ_sI, gQ_sR, gQ_sA, gQ_sL, gQ_sF, gQ_sQ, gQ_sG, gQ_sN, gN_sI, gN_sR, gN_sA, gN_sL, gN_sF, gN_sQ, gN_sG, gN_sN, gS_sI, gS_sR, gS_sA, gS_sL, gS_sF, gS_sQ, gS_sG, gS_sN, gO_sI, gO_sR, gO_sA, gO_sL, gO_sF, gO_sQ, gO_sN, isR_ref, isR_null, isR_rf, isR2_ref, isR2_null, isR2_rf, am_k_int, am_k_ref, am_k_null, am_k_rf, am_k_none, am_k_long, am_k_double, rf_some, rf_none, KT_ret, KT_void, XP_ap, true_and, and_true, Nat.reduceAdd, Nat.reduceEqDiff, reduceIte, if_true, if_false, eq_self, true_or, or_true, forall_const, not_true_eq_false, not_false_eq_true, ise, wR_of o5e ⟨by decide, by decide⟩ h5 (by decide) (kO_of (by omega) sc sd)]
        generalize hD6 : sG D5 es (.inl (10, 5, updV fe m (.ref a5))) = D6
        have hF6 : FP D D6 := by rw [← hD6]; exact FP.wr hes (hF4.trans hF5)
        have n6 : gN D6 = gN D5 := by rw [← hD6]; rfl
        have i6 : ∀ q, gI D6 q = gI D5 q := fun q => by rw [← hD6]; rfl
        have o6 : ∀ b, ¬ b = es → gO D6 b = gO D5 b := fun b hb => by rw [← hD6, gO_sG o5e, if_neg hb]
        have o6e : gO D6 es = some (.inl (10, 5, updV fe m (.ref a5))) := by rw [← hD6]; exact gO_gg o5e
        have o6c : gO D6 c = some (.inr (10, [.ref b, .ref ps, .ref es, .int (i32 m)])) := by rw [o6 c hce, hF5.obj (by omega)]; exact o4c
        have o6p : gO D6 ps = some (.inl (7, 5, updV fp m (.ref a2))) := by rw [o6 ps hpe, hF5.obj (by omega)]; exact o4p
        simp only [x46_0, x46_3, x46_3f, x46_4, x46_5, x46_8, x46_11, x46_12, x46_13, x46_15, x46_18, x46_21, x46_22, x46_25, x46_26, x46_29, x46_30, x46_32, x46_35, x46_36, x46_39, x46_40, x46_43, x46_44, x46_47, x46_48, x46_51, x46_52, x46_53, x46_56, x46_57, x46_60, x46_61, x46_64, x46_65, x46_68, x46_69, x46_70, x46_72, x46_75, x46_78, x46_79, x46_82, x46_83, x46_86, x46_87, x46_90, x46_91, x46_94, x46_95, x46_98, x46_99, x46_100, x46_100f, x46_101, x46_104, x46_105, x46_106, x46_109, x46_110, x46_112, x46_115, x46_116, x46_119, x46_120, x46_122, x46_125, x46_128, x46_129, x46_132, x46_133, x46_136, x46_137, gI_sI, gI_sR, gI_sA, gI_sL, gI_sF, gI_sQ, gI_sG, gI_sN, gR_sI, gR_sR, gR_sA, gR_sL, gR_sF, gR_sQ, gR_sG, gR_sN, gA_sI, gA_sR, gA_sA, gA_sL, gA_sF, gA_sQ, gA_sG, gA_sN, gL_sI, gL_sR, gL_sA, gL_sL, gL_sF, gL_sQ, gL_sG, gL_sN, gF_sI, gF_sR, gF_sA, gF_sL, gF_sF, gF_sQ, gF_sG, gF_sN, gQ_sI, gQ_sR, gQ_sA, gQ_sL, gQ_sF, gQ_sQ, gQ_sG, gQ_sN, gN_sI, gN_sR, gN_sA, gN_sL, gN_sF, gN_sQ, gN_sG, gN_sN, gS_sI, gS_sR, gS_sA, gS_sL, gS_sF, gS_sQ, gS_sG, gS_sN, gO_sI, gO_sR, gO_sA, gO_sL, gO_sF, gO_sQ, gO_sN, isR_ref, isR_null, isR_rf, isR2_ref, isR2_null, isR2_rf, am_k_int, am_k_ref, am_k_null, am_k_rf, am_k_none, am_k_long, am_k_double, rf_some, rf_none, KT_ret, KT_void, XP_ap, true_and, and_true, Nat.reduceAdd, Nat.reduceEqDiff, reduceIte, if_true, if_false, eq_self, true_or, or_true, forall_const, not_true_eq_false, not_false_eq_true, fO_of (k := 3) o6c rfl rfl]
        rw [pO_of (k := 3) o6c rfl (Nat.le_of_ble_eq_true rfl)]
        simp only [x46_0, x46_3, x46_3f, x46_4, x46_5, x46_8, x46_11, x46_12, x46_13, x46_15, x46_18, x46_21, x46_22, x46_25, x46_26, x46_29, x46_30, x46_32, x46_35, x46_36, x46_39, x46_40, x46_43, x46_44, x46_47, x46_48, x46_51, x46_52, x46_53, x46_56, x46_57, x46_60, x46_61, x46_64, x46_65, x46_68, x46_69, x46_70, x46_72, x46_75, x46_78, x46_79, x46_82, x46_83, x46_86, x46_87, x46_90, x46_91, x46_94, x46_95, x46_98, x46_99, x46_100, x46_100f, x46_101, x46_104, x46_105, x46_106, x46_109, x46_110, x46_112, x46_115, x46_116, x46_119, x46_120, x46_122, x46_125, x46_128, x46_129, x46_132, x46_133, x46_136, x46_137, gI_sI, gI_sR, gI_sA, gI_sL, gI_sF, gI_sQ, gI_sG, gI_sN, gR_sI, gR_sR, gR_sA, gR_sL, gR_sF, gR_sQ, gR_sG, gR_sN, gA_sI, gA_sR, gA_sA, gA_sL, gA_sF, gA_sQ, gA_sG, gA_sN, gL_sI, gL_sR, gL_sA, gL_sL, gL_sF, gL_sQ, gL_sG, gL_sN, gF_sI, gF_sR, gF_sA, gF_sL, gF_sF, gF_sQ, gF_sG, gF_sN, gQ_sI, gQ_sR, gQ_sA, gQ_sL, gQ_sF, gQ_sQ, gQ_sG, gQ_sN, gN_sI, gN_sR, gN_sA, gN_sL, gN_sF, gN_sQ, gN_sG, gN_sN, gS_sI, gS_sR, gS_sA, gS_sL, gS_sF, gS_sQ, gS_sG, gS_sN, gO_sI, gO_sR, gO_sA, gO_sL, gO_sF, gO_sQ, gO_sN, isR_ref, isR_null, isR_rf, isR2_ref, isR2_null, isR2_rf, am_k_int, am_k_ref, am_k_null, am_k_rf, am_k_none, am_k_long, am_k_double, rf_some, rf_none, KT_ret, KT_void, XP_ap, true_and, and_true, Nat.reduceAdd, Nat.reduceEqDiff, reduceIte, if_true, if_false, eq_self, true_or, or_true, forall_const, not_true_eq_false, not_false_eq_true, List.set_cons_zero, List.set_cons_succ]
        rw [i32_add1]
        generalize hD7 : sG D6 c (.inr (10, [.ref b, .ref ps, .ref es, .int (i32 (m + 1))])) = D7
        have hF7 : FP D D7 := by rw [← hD7]; exact FP.wr hc hF6
        have n7 : gN D7 = gN D5 := by rw [← hD7, gN_sG]; exact n6
        have i7 : ∀ q, gI D7 q = gI D5 q := fun q => by rw [← hD7]; exact i6 q
        have o7 : ∀ b, ¬ b = c → ¬ b = es → gO D7 b = gO D5 b := fun b hb he => by rw [← hD7, gO_sG o6c, if_neg hb]; exact o6 b he
        have o7c : gO D7 c = some (.inr (10, [.ref b, .ref ps, .ref es, .int (i32 (m + 1))])) := by rw [← hD7]; exact gO_gg o6c
        have o7p : gO D7 ps = some (.inl (7, 5, updV fp m (.ref a2))) := by rw [← hD7, gO_sG o6c, if_neg (fun z => hcp z.symm)]; exact o6p
        have o7e : gO D7 es = some (.inl (10, 5, updV fe m (.ref a5))) := by rw [← hD7, gO_sG o6c, if_neg (fun z => hce z.symm)]; exact o6e
        have hs5 := sk_lt (tx := tx) hp5
        have hs6 := sk_le (tx := tx) (n := n) (p := p3)
        -- the clause in any later state
        have cl1 : ∀ (D8 : sS) (B : Nat), 82 + gN D7 ≤ B → (∀ b, b < 82 + gN D7 → ¬ b = c → ¬ b = ps → ¬ b = es → gO D8 b = gO D7 b) → PX (gO D8) (82 + gN D1) B q a2 ∧ EX (gO D8) (82 + gN D1) B e none a5 := by
          intro D8 B hB h8
          constructor
          · refine PX.mono (fun b h1 h2 => ?_) (Nat.le_refl _) (by omega) _ _ hX2
            rw [h8 b (by omega) (by omega) (by omega) (by omega), o7 b (by omega) (by omega), hF5.obj (by omega), o4 b (by omega)]
          · refine EX.mono (fun b h1 h2 => ?_) (by omega) (by omega) _ _ _ hX5
            rw [h8 b (by omega) (by omega) (by omega) (by omega), o7 b (by omega) (by omega)]
        have old : ∀ b, b < 82 + gN D1 → ¬ b = c → ¬ b = ps → ¬ b = es → gO D7 b = gO D1 b := by
          intro b h1 h2 h3 h4
          rw [o7 b h2 h4, hF5.obj (by omega), o4 b h3, hF2.obj h1]
        refine f_eat (hF7.tf hT) (p := p3) (by rw [i7]; exact h141) (by omega) (by omega) (fun hh => ?_) (fun hh => ?_)
        · rw [if_pos hh] at hP5
          have hl5 := ch_lt hh (by decide)
          simp only [x46_0, x46_3, x46_3f, x46_4, x46_5, x46_8, x46_11, x46_12, x46_13, x46_15, x46_18, x46_21, x46_22, x46_25, x46_26, x46_29, x46_30, x46_32, x46_35, x46_36, x46_39, x46_40, x46_43, x46_44, x46_47, x46_48, x46_51, x46_52, x46_53, x46_56, x46_57, x46_60, x46_61, x46_64, x46_65, x46_68, x46_69, x46_70, x46_72, x46_75, x46_78, x46_79, x46_82, x46_83, x46_86, x46_87, x46_90, x46_91, x46_94, x46_95, x46_98, x46_99, x46_100, x46_100f, x46_101, x46_104, x46_105, x46_106, x46_109, x46_110, x46_112, x46_115, x46_116, x46_119, x46_120, x46_122, x46_125, x46_128, x46_129, x46_132, x46_133, x46_136, x46_137, gI_sI, gI_sR, gI_sA, gI_sL, gI_sF, gI_sQ, gI_sG, gI_sN, gR_sI, gR_sR, gR_sA, gR_sL, gR_sF, gR_sQ, gR_sG, gR_sN, gA_sI, gA_sR, gA_sA, gA_sL, gA_sF, gA_sQ, gA_sG, gA_sN, gL_sI, gL_sR, gL_sA, gL_sL, gL_sF, gL_sQ, gL_sG, gL_sN, gF_sI, gF_sR, gF_sA, gF_sL, gF_sF, gF_sQ, gF_sG, gF_sN, gQ_sI, gQ_sR, gQ_sA, gQ_sL, gQ_sF, gQ_sQ, gQ_sG, gQ_sN, gN_sI, gN_sR, gN_sA, gN_sL, gN_sF, gN_sQ, gN_sG, gN_sN, gS_sI, gS_sR, gS_sA, gS_sL, gS_sF, gS_sQ, gS_sG, gS_sN, gO_sI, gO_sR, gO_sA, gO_sL, gO_sF, gO_sQ, gO_sN, isR_ref, isR_null, isR_rf, isR2_ref, isR2_null, isR2_rf, am_k_int, am_k_ref, am_k_null, am_k_rf, am_k_none, am_k_long, am_k_double, rf_some, rf_none, KT_ret, KT_void, XP_ap, true_and, and_true, Nat.reduceAdd, Nat.reduceEqDiff, reduceIte, if_true, if_false, eq_self, true_or, or_true, forall_const, not_true_eq_false, not_false_eq_true]
          cases hr9 : PR tx n j 9 (sk tx n p3 + 1) dep 0 (.natCast (m + 1)) with
          | none => rw [hr9] at hP5; cases hP5
          | some rr =>
            refine ij (by omega) (m + 1) (sk tx n p3 + 1) (sI D7 141 (i32 (sk tx n p3 + 1))) _ _ rr hr9 (by omega) hF7.at_ (by omega) rfl ((i7 142).trans h142) (by rw [gN_sI]; omega) (by rw [gN_sI]; omega) (by rw [gN_sI]; omega) (by rw [gN_sI]; omega) o7c o7p o7e ?_ ?_
            · intro hrr
              subst hrr
              rw [hr9] at hP5
              cases hP5
              exact hthr rfl
            · intro cl p' b' D8 fp' fe' hrr hF8 hp8 h141 h142 hN8 hM8 hO8 hc8 hpp8 he8 hm8 hi8 hX8
              cases hrr
              rw [hr9] at hP5
              have hcl : cln (cCons q e cl) = cln cl + 1 := rfl
              rw [gN_sI] at hN8
              have k1 := cl1 D8 (82 + gN D8) (by omega) (fun b h1 h2 h3 h4 => hO8 b h1 h2 h3 h4)
              refine hret (cCons q e cl) p' 0 D8 fp' fe' hP5 hF8 hp8 h141 h142 (by omega) (by omega) (fun b h1 h2 h3 h4 => by rw [hO8 b (by rw [gN_sI]; omega) h2 h3 h4]; exact old b h1 h2 h3 h4) (by rw [hc8, hcl, Nat.add_assoc, Nat.add_comm 1]) hpp8 he8 (by rw [hcl]; omega) ?_ ?_
              · intro i hi
                rw [(hi8 i (by omega)).1, (hi8 i (by omega)).2]
                exact ⟨if_neg (by omega), if_neg (by omega)⟩
              · show EX _ _ _ (.sub q (.sub e cl)) _ _
                unfold EX
                refine ⟨⟨a2, by rw [(hi8 m (by omega)).1]; exact if_pos rfl, k1.1⟩, ⟨a5, by rw [(hi8 m (by omega)).2]; exact if_pos rfl, k1.2⟩, ?_⟩
                exact EX.mono (fun b _ _ => rfl) (by rw [gN_sI]; omega) (Nat.le_refl _) _ _ _ hX8
        · rw [if_neg hh] at hP5
          simp only [x46_0, x46_3, x46_3f, x46_4, x46_5, x46_8, x46_11, x46_12, x46_13, x46_15, x46_18, x46_21, x46_22, x46_25, x46_26, x46_29, x46_30, x46_32, x46_35, x46_36, x46_39, x46_40, x46_43, x46_44, x46_47, x46_48, x46_51, x46_52, x46_53, x46_56, x46_57, x46_60, x46_61, x46_64, x46_65, x46_68, x46_69, x46_70, x46_72, x46_75, x46_78, x46_79, x46_82, x46_83, x46_86, x46_87, x46_90, x46_91, x46_94, x46_95, x46_98, x46_99, x46_100, x46_100f, x46_101, x46_104, x46_105, x46_106, x46_109, x46_110, x46_112, x46_115, x46_116, x46_119, x46_120, x46_122, x46_125, x46_128, x46_129, x46_132, x46_133, x46_136, x46_137, gI_sI, gI_sR, gI_sA, gI_sL, gI_sF, gI_sQ, gI_sG, gI_sN, gR_sI, gR_sR, gR_sA, gR_sL, gR_sF, gR_sQ, gR_sG, gR_sN, gA_sI, gA_sR, gA_sA, gA_sL, gA_sF, gA_sQ, gA_sG, gA_sN, gL_sI, gL_sR, gL_sA, gL_sL, gL_sF, gL_sQ, gL_sG, gL_sN, gF_sI, gF_sR, gF_sA, gF_sL, gF_sF, gF_sQ, gF_sG, gF_sN, gQ_sI, gQ_sR, gQ_sA, gQ_sL, gQ_sF, gQ_sQ, gQ_sG, gQ_sN, gN_sI, gN_sR, gN_sA, gN_sL, gN_sF, gN_sQ, gN_sG, gN_sN, gS_sI, gS_sR, gS_sA, gS_sL, gS_sF, gS_sQ, gS_sG, gS_sN, gO_sI, gO_sR, gO_sA, gO_sL, gO_sF, gO_sQ, gO_sN, isR_ref, isR_null, isR_rf, isR2_ref, isR2_null, isR2_rf, am_k_int, am_k_ref, am_k_null, am_k_rf, am_k_none, am_k_long, am_k_double, rf_some, rf_none, KT_ret, KT_void, XP_ap, true_and, and_true, Nat.reduceAdd, Nat.reduceEqDiff, reduceIte, if_true, if_false, eq_self, true_or, or_true, forall_const, not_true_eq_false, not_false_eq_true]
          have k1 := cl1 (sI D7 141 (i32 (sk tx n p3))) (82 + gN D7) (by omega) (fun b h1 h2 h3 h4 => rfl)
          refine hret (cCons q e cNil) (sk tx n p3) 0 _ _ _ hP5 hF7.at_ hs5 rfl ((i7 142).trans h142) (by rw [gN_sI]; omega) (by rw [gN_sI]; omega) old o7c o7p o7e (by show m + 1 ≤ 5; omega) ?_ ?_
          · intro i hi
            exact ⟨if_neg (by omega), if_neg (by omega)⟩
          · show EX _ _ _ (.sub q (.sub e (.natCast 0))) _ _
            unfold EX
            refine ⟨⟨a2, if_pos rfl, k1.1⟩, ⟨a5, if_pos rfl, k1.2⟩, ?_⟩
            unfold EX
            trivial
      · rw [if_neg hh] at hP2
        simp only [x46_0, x46_3, x46_3f, x46_4, x46_5, x46_8, x46_11, x46_12, x46_13, x46_15, x46_18, x46_21, x46_22, x46_25, x46_26, x46_29, x46_30, x46_32, x46_35, x46_36, x46_39, x46_40, x46_43, x46_44, x46_47, x46_48, x46_51, x46_52, x46_53, x46_56, x46_57, x46_60, x46_61, x46_64, x46_65, x46_68, x46_69, x46_70, x46_72, x46_75, x46_78, x46_79, x46_82, x46_83, x46_86, x46_87, x46_90, x46_91, x46_94, x46_95, x46_98, x46_99, x46_100, x46_100f, x46_101, x46_104, x46_105, x46_106, x46_109, x46_110, x46_112, x46_115, x46_116, x46_119, x46_120, x46_122, x46_125, x46_128, x46_129, x46_132, x46_133, x46_136, x46_137, gI_sI, gI_sR, gI_sA, gI_sL, gI_sF, gI_sQ, gI_sG, gI_sN, gR_sI, gR_sR, gR_sA, gR_sL, gR_sF, gR_sQ, gR_sG, gR_sN, gA_sI, gA_sR, gA_sA, gA_sL, gA_sF, gA_sQ, gA_sG, gA_sN, gL_sI, gL_sR, gL_sA, gL_sL, gL_sF, gL_sQ, gL_sG, gL_sN, gF_sI, gF_sR, gF_sA, gF_sL, gF_sF, gF_sQ, gF_sG, gF_sN, gQ_sI, gQ_sR, gQ_sA, gQ_sL, gQ_sF, gQ_sQ, gQ_sG, gQ_sN, gN_sI, gN_sR, gN_sA, gN_sL, gN_sF, gN_sQ, gN_sG, gN_sN, gS_sI, gS_sR, gS_sA, gS_sL, gS_sF, gS_sQ, gS_sG, gS_sN, gO_sI, gO_sR, gO_sA, gO_sL, gO_sF, gO_sQ, gO_sN, isR_ref, isR_null, isR_rf, isR2_ref, isR2_null, isR2_rf, am_k_int, am_k_ref, am_k_null, am_k_rf, am_k_none, am_k_long, am_k_double, rf_some, rf_none, KT_ret, KT_void, XP_ap, true_and, and_true, Nat.reduceAdd, Nat.reduceEqDiff, reduceIte, if_true, if_false, eq_self, true_or, or_true, forall_const, not_true_eq_false, not_false_eq_true]
        refine ⟨fun h => h.elim, f_ill (by omega) (RM.cap (hR.go (j := 1) hF3.at_ (by rw [gN_sI]; omega)) (by omega) (by omega)) (fun h => by cases h) (fun _ => ?_)⟩
        rw [KT_thr rfl]
        cases hP2
        exact hthr rfl _ _ (hF3.at_.new (by omega)) (by rw [gN_sN, gN_sI]; omega)
    · rw [if_pos (by omega)] at hP
      cases hP
      refine f_ill (by omega) (RM.cap (hR.go (j := 1) hF (by omega)) (by omega) (by omega)) (fun h => by cases h) (fun _ => ?_)
      rw [KT_thr rfl]
      exact hthr rfl _ _ (hF.new (by omega)) (by rw [gN_sN]; omega)
end RK
