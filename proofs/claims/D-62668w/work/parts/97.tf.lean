/-! FunDesk: unify at the top; generalize, generic -/
set_option maxRecDepth 100000
section TFF
variable {d : Nat} {D D' D'' : sS} {Q : am_O → am_H → Prop} {a b c l srt N v x y : Nat} {G : tG} {tm tm' : Nat → tE} {ρ : Nat → Nat} {one two cp r t : Option Nat} {lv st : Int32} {L L' L'' : Nat → Int32} {V : Nat → tE}
theorem u_wide (hH : TH D G tm ρ) (hL : LV D L) (ha : isT D a) (hb : isT D b) (hw : 80 < ty_w (tm a) ∨ 80 < ty_w (tm b)) (hd : 90 ≤ d) (hcap : capok D 6) (hU : UQ D (82 + gN D) tm L a b Q) : AC d 54 [.ref a, .ref b] (toH D) Q := by
  have hal := hH.lt ha
  have hbl := hH.lt hb
  refine AC.pos hd fun d' hd' => ?_
  rw [e54 rfl rfl]
  simp only [x54_0, x54_1, x54_4, x54_5, x54_6, x54_9, x54_10, x54_11, x54_12, x54_15, x54_16, x54_17, x54_20, x54_21, x54_24, x54_25, x54_28, x54_31, x54_34, x54_35, x54_38, x54_41, x54_44, x54_45, x54_46, x54_49, x54_50, x54_51, x54_54, x54_57, x54_60, x54_61, x54_62, x54_65, x54_68, x54_76, x54_77, x54_78, x54_78a, x54_78n, x54_81, x54_82, x54_83, x54_86, x54_87, x54_90, x54_93, x54_101, x54_102, x54_105, x54_108, x54_111, x54_112, x54_115, x54_118, x54_121, x54_122, x54_125, x54_126, x54_129, x54_132, x54_133, x54_136, x54_139, x54_142, x54_143, x54_146, x54_147, x54_150, x54_153, gI_sI, gI_sR, gI_sA, gI_sL, gI_sF, gI_sQ, gI_sG, gI_sN, gR_sI, gR_sR, gR_sA, gR_sL, gR_sF, gR_sQ, gR_sG, gR_sN, gA_sI, gA_sR, gA_sA, gA_sL, gA_sF, gA_sQ, gA_sG, gA_sN, gL_sI, gL_sR, gL_sA, gL_sL, gL_sF, gL_sQ, gL_sG, gL_sN, gF_sI, gF_sR, gF_sA, gF_sL, gF_sF, gF_sQ, gF_sG, gF_sN, gQ_sI, gQ_sR, gQ_sA, gQ_sL, gQ_sF, gQ_sQ, gQ_sG, gQ_sN, gN_sI, gN_sR, gN_sA, gN_sL, gN_sF, gN_sQ, gN_sG, gN_sN, gS_sI, gS_sR, gS_sA, gS_sL, gS_sF, gS_sQ, gS_sG, gS_sN, gO_sI, gO_sR, gO_sA, gO_sL, gO_sF, gO_sQ, gO_sN, isR_ref, isR_null, isR_rf, isR2_ref, isR2_null, isR2_rf, am_k_int, am_k_ref, am_k_null, am_k_rf, am_k_none, am_k_long, am_k_double, rf_some, rf_none, KT_ret, KT_void, XP_ap, true_and, and_true, Nat.reduceAdd, Nat.reduceEqDiff, reduceIte, if_true, if_false, eq_self, true_or, or_true, forall_const, not_true_eq_false, not_false_eq_true]
  refine ⟨isT.co ha, f_real hH ha (by omega) fun x sx ox tx cx lx qx hTx hrx hRx => ?_⟩
  simp only [x54_0, x54_1, x54_4, x54_5, x54_6, x54_9, x54_10, x54_11, x54_12, x54_15, x54_16, x54_17, x54_20, x54_21, x54_24, x54_25, x54_28, x54_31, x54_34, x54_35, x54_38, x54_41, x54_44, x54_45, x54_46, x54_49, x54_50, x54_51, x54_54, x54_57, x54_60, x54_61, x54_62, x54_65, x54_68, x54_76, x54_77, x54_78, x54_78a, x54_78n, x54_81, x54_82, x54_83, x54_86, x54_87, x54_90, x54_93, x54_101, x54_102, x54_105, x54_108, x54_111, x54_112, x54_115, x54_118, x54_121, x54_122, x54_125, x54_126, x54_129, x54_132, x54_133, x54_136, x54_139, x54_142, x54_143, x54_146, x54_147, x54_150, x54_153, gI_sI, gI_sR, gI_sA, gI_sL, gI_sF, gI_sQ, gI_sG, gI_sN, gR_sI, gR_sR, gR_sA, gR_sL, gR_sF, gR_sQ, gR_sG, gR_sN, gA_sI, gA_sR, gA_sA, gA_sL, gA_sF, gA_sQ, gA_sG, gA_sN, gL_sI, gL_sR, gL_sA, gL_sL, gL_sF, gL_sQ, gL_sG, gL_sN, gF_sI, gF_sR, gF_sA, gF_sL, gF_sF, gF_sQ, gF_sG, gF_sN, gQ_sI, gQ_sR, gQ_sA, gQ_sL, gQ_sF, gQ_sQ, gQ_sG, gQ_sN, gN_sI, gN_sR, gN_sA, gN_sL, gN_sF, gN_sQ, gN_sG, gN_sN, gS_sI, gS_sR, gS_sA, gS_sL, gS_sF, gS_sQ, gS_sG, gS_sN, gO_sI, gO_sR, gO_sA, gO_sL, gO_sF, gO_sQ, gO_sN, isR_ref, isR_null, isR_rf, isR2_ref, isR2_null, isR2_rf, am_k_int, am_k_ref, am_k_null, am_k_rf, am_k_none, am_k_long, am_k_double, rf_some, rf_none, KT_ret, KT_void, XP_ap, true_and, and_true, Nat.reduceAdd, Nat.reduceEqDiff, reduceIte, if_true, if_false, eq_self, true_or, or_true, forall_const, not_true_eq_false, not_false_eq_true]
  refine ⟨isT.co hb, f_real hH hb (by omega) fun y sy oy ty cy ly qy hTy hry hRy => ?_⟩
  simp only [x54_0, x54_1, x54_4, x54_5, x54_6, x54_9, x54_10, x54_11, x54_12, x54_15, x54_16, x54_17, x54_20, x54_21, x54_24, x54_25, x54_28, x54_31, x54_34, x54_35, x54_38, x54_41, x54_44, x54_45, x54_46, x54_49, x54_50, x54_51, x54_54, x54_57, x54_61, x54_62, x54_65, x54_68, x54_76, x54_77, x54_78, x54_78a, x54_78n, x54_81, x54_82, x54_83, x54_86, x54_87, x54_90, x54_93, x54_101, x54_102, x54_105, x54_108, x54_111, x54_112, x54_115, x54_118, x54_121, x54_122, x54_125, x54_126, x54_129, x54_132, x54_133, x54_136, x54_139, x54_142, x54_143, x54_146, x54_147, x54_150, x54_153, gI_sI, gI_sR, gI_sA, gI_sL, gI_sF, gI_sQ, gI_sG, gI_sN, gR_sI, gR_sR, gR_sA, gR_sL, gR_sF, gR_sQ, gR_sG, gR_sN, gA_sI, gA_sR, gA_sA, gA_sL, gA_sF, gA_sQ, gA_sG, gA_sN, gL_sI, gL_sR, gL_sA, gL_sL, gL_sF, gL_sQ, gL_sG, gL_sN, gF_sI, gF_sR, gF_sA, gF_sL, gF_sF, gF_sQ, gF_sG, gF_sN, gQ_sI, gQ_sR, gQ_sA, gQ_sL, gQ_sF, gQ_sQ, gQ_sG, gQ_sN, gN_sI, gN_sR, gN_sA, gN_sL, gN_sF, gN_sQ, gN_sG, gN_sN, gS_sI, gS_sR, gS_sA, gS_sL, gS_sF, gS_sQ, gS_sG, gS_sN, gO_sI, gO_sR, gO_sA, gO_sL, gO_sF, gO_sQ, gO_sN, isR_ref, isR_null, isR_rf, isR2_ref, isR2_null, isR2_rf, am_k_int, am_k_ref, am_k_null, am_k_rf, am_k_none, am_k_long, am_k_double, rf_some, rf_none, KT_ret, KT_void, XP_ap, true_and, and_true, Nat.reduceAdd, Nat.reduceEqDiff, reduceIte, if_true, if_false, eq_self, true_or, or_true, forall_const, not_true_eq_false, not_false_eq_true, Value.ref.injEq]
  have hbad : ∀ V, VLs tm (82 + gN D) V → V a = V b → ty_w (V a) ≤ 80 → False := by
    intro V hV hab hle
    have h1 : ty_w (tm a) ≤ ty_w (V a) := by rw [hV a hal]; exact ty_w_s
    have h2 : ty_w (tm b) ≤ ty_w (V b) := by rw [hV b hbl]; exact ty_w_s
    rw [← hab] at h2
    omega
  refine ⟨fun hxy => ?_, fun hxy => ?_⟩
  · refine f_fit hH ⟨_, _, _, _, _, _, hTx⟩ (by omega) hcap (fun wx => ?_) (fun wx => ?_)
    · simp only [x54_0, x54_1, x54_4, x54_5, x54_6, x54_9, x54_10, x54_11, x54_12, x54_15, x54_16, x54_17, x54_20, x54_21, x54_24, x54_25, x54_28, x54_31, x54_34, x54_35, x54_38, x54_41, x54_44, x54_45, x54_46, x54_49, x54_50, x54_51, x54_54, x54_57, x54_61, x54_62, x54_65, x54_68, x54_76, x54_77, x54_78, x54_78a, x54_78n, x54_81, x54_82, x54_83, x54_86, x54_87, x54_90, x54_93, x54_101, x54_102, x54_105, x54_108, x54_111, x54_112, x54_115, x54_118, x54_121, x54_122, x54_125, x54_126, x54_129, x54_132, x54_133, x54_136, x54_139, x54_142, x54_143, x54_146, x54_147, x54_150, x54_153, gI_sI, gI_sR, gI_sA, gI_sL, gI_sF, gI_sQ, gI_sG, gI_sN, gR_sI, gR_sR, gR_sA, gR_sL, gR_sF, gR_sQ, gR_sG, gR_sN, gA_sI, gA_sR, gA_sA, gA_sL, gA_sF, gA_sQ, gA_sG, gA_sN, gL_sI, gL_sR, gL_sA, gL_sL, gL_sF, gL_sQ, gL_sG, gL_sN, gF_sI, gF_sR, gF_sA, gF_sL, gF_sF, gF_sQ, gF_sG, gF_sN, gQ_sI, gQ_sR, gQ_sA, gQ_sL, gQ_sF, gQ_sQ, gQ_sG, gQ_sN, gN_sI, gN_sR, gN_sA, gN_sL, gN_sF, gN_sQ, gN_sG, gN_sN, gS_sI, gS_sR, gS_sA, gS_sL, gS_sF, gS_sQ, gS_sG, gS_sN, gO_sI, gO_sR, gO_sA, gO_sL, gO_sF, gO_sQ, gO_sN, isR_ref, isR_null, isR_rf, isR2_ref, isR2_null, isR2_rf, am_k_int, am_k_ref, am_k_null, am_k_rf, am_k_none, am_k_long, am_k_double, rf_some, rf_none, KT_ret, KT_void, XP_ap, true_and, and_true, Nat.reduceAdd, Nat.reduceEqDiff, reduceIte, if_true, if_false, eq_self, true_or, or_true, forall_const, not_true_eq_false, not_false_eq_true]
      refine f_fit hH ⟨_, _, _, _, _, _, hTy⟩ (by omega) hcap (fun wy => ?_) (fun wy => ?_)
      · rw [hrx] at wx; rw [hry] at wy; omega
      · rw [KT_thr rfl]
        exact hU.bad hbad hH UF.refl
    · rw [KT_thr rfl]
      exact hU.bad hbad hH UF.refl
  · subst hxy
    exact hU.same hH hL hal hbl (hrx.symm.trans hry)
/-- two types become one, or an exception comes -/
theorem f_unify (hH : TH D G tm ρ) (hL : LV D L) (ha : isT D a) (hb : isT D b) (hd : 1811 ≤ d) (hcap : capok D 6) (hng : ∀ x, ty_h x (tm a) ∨ ty_h x (tm b) → ¬ L x = 1000) (hU : UQ D (82 + gN D) tm L a b Q) : AC d 54 [.ref a, .ref b] (toH D) Q := by
  by_cases hw : 80 < ty_w (tm a) ∨ 80 < ty_w (tm b)
  · exact u_wide hH hL ha hb hw (by omega) hcap hU
  · have h1 := ty_t_w (u := tm a)
    have h2 := ty_t_w (u := tm b)
    have h3 := ty_ht_w (u := tm a)
    refine f_uni 40 41 (ty_t (tm a) ++ ty_t (tm b)) a b d D G tm ρ L Q hH hL ha hb (fun x hx => ?_) ?_ (.inr (by omega)) (Nat.le_refl _) (by omega) hcap hng hU
    · rw [List.mem_append]
      rcases hx with z | z
      · exact .inl (ty_t_h.mp z)
      · exact .inr (ty_t_h.mp z)
    · rw [List.length_append]; omega
/-- variables deeper than a level stand for anything -/
theorem f_gen : ∀ (w a d : Nat) (D : sS) (L : Nat → Int32) (lvl : Int32) (Q : am_O → am_H → Prop), TH D G tm ρ → LV D L → isT D a → ty_w (tm a) ≤ w → w + 2 ≤ d → lvl < 1000 → (∀ D' L', LVF D D' L' → (∀ u, ty_h u (tm a) → lvl < L u → L' u = 1000) → (∀ u, (¬ ty_h u (tm a) ∨ ¬ lvl < L u) → L' u = L u) → Q (.inl none) (toH D')) → AC d 60 [.ref a, .int lvl] (toH D) Q := by
  intro w
  induction w with
  | zero => intro a d D L lvl Q _ _ _ hw; have := ty_w1 (t := tm a); omega
  | succ w ih =>
    intro a d D L lvl Q hH hL ha hw hd hlv hQ
    refine AC.pos hd fun d' hd' => ?_
    rw [e60 rfl]
    simp only [x60_0, x60_1, x60_4, x60_5, x60_6, x60_9, x60_12, x60_15, x60_16, x60_19, x60_20, x60_23, x60_24, x60_27, x60_30, x60_31, x60_34, x60_37, x60_40, x60_41, x60_44, x60_47, x60_50, x60_51, x60_54, x60_55, x60_58, x60_59, x60_62, x60_65, x60_68, x60_69, x60_72, x60_73, x60_76, gI_sI, gI_sR, gI_sA, gI_sL, gI_sF, gI_sQ, gI_sG, gI_sN, gR_sI, gR_sR, gR_sA, gR_sL, gR_sF, gR_sQ, gR_sG, gR_sN, gA_sI, gA_sR, gA_sA, gA_sL, gA_sF, gA_sQ, gA_sG, gA_sN, gL_sI, gL_sR, gL_sA, gL_sL, gL_sF, gL_sQ, gL_sG, gL_sN, gF_sI, gF_sR, gF_sA, gF_sL, gF_sF, gF_sQ, gF_sG, gF_sN, gQ_sI, gQ_sR, gQ_sA, gQ_sL, gQ_sF, gQ_sQ, gQ_sG, gQ_sN, gN_sI, gN_sR, gN_sA, gN_sL, gN_sF, gN_sQ, gN_sG, gN_sN, gS_sI, gS_sR, gS_sA, gS_sL, gS_sF, gS_sQ, gS_sG, gS_sN, gO_sI, gO_sR, gO_sA, gO_sL, gO_sF, gO_sQ, gO_sN, isR_ref, isR_null, isR_rf, isR2_ref, isR2_null, isR2_rf, am_k_int, am_k_ref, am_k_null, am_k_rf, am_k_none, am_k_long, am_k_double, rf_some, rf_none, KT_ret, KT_void, XP_ap, true_and, and_true, Nat.reduceAdd, Nat.reduceEqDiff, reduceIte, if_true, if_false, eq_self, true_or, or_true, forall_const, not_true_eq_false, not_false_eq_true]
    refine ⟨isT.co ha, f_real hH ha (by omega) fun r srt one two cp lv st ht hr hRL => ?_⟩
    rw [← hr] at hQ hw
    have hf0 : ∀ K, fO D r 2 0 K ↔ K (.ref srt) := fun K => fO_of ht rfl rfl
    have hf1 : ∀ K, fO D r 2 1 K ↔ K (va_rf one) := fun K => fO_of ht rfl rfl
    have hf4 : ∀ K, fO D r 2 4 K ↔ K (.int lv) := fun K => fO_of ht rfl rfl
    have hrL : lv = L r := hL _ _ _ _ _ _ _ ht
    have hp4 : ∀ (y : Value) K, pO D r 2 4 y K ↔ K (sG D r (.inr (2, [.ref srt, va_rf one, va_rf two, va_rf cp, y, .int st]))) := fun y K => pO_set ht rfl (Nat.le_of_ble_eq_true rfl)
    have base : (∀ u, ¬ ty_h u (tm r)) → Q (.inl none) (toH D) := fun hn => hQ D L (LVF.refl hL) (fun u hu => absurd hu (hn u)) (fun u _ => rfl)
    have two1 : ∀ (e : tE), e = .var 0 ∨ e = .var 1 ∨ e = .var 2 → ∀ u, ¬ ty_h u e := by
      rintro e (rfl | rfl | rfl) u z
      · have z : 0 = u + 3 := z; omega
      · have z : 1 = u + 3 := z; omega
      · have z : 2 = u + 3 := z; omega
    rcases hRL with ⟨rfl, e0, e1⟩ | ⟨rfl, e1⟩ | ⟨rfl, e1⟩ | ⟨rfl, e1⟩ | ⟨rfl, b, e0, e2, e3⟩ | ⟨rfl, b, c, e0, e0', e3, e4, e5⟩
    · have hF : LVF D (sG D r (.inr (2, [.ref 0, va_rf one, va_rf two, va_rf cp, .int 1000, .int st]))) (upf L r 1000) := LVF.w1 hL ht
      have hTY := hF.2.2 _ _ _ _ _ _ _ ht
      have hq0 : ∀ K, fO (sG D r (.inr (2, [.ref 0, va_rf one, va_rf two, va_rf cp, .int 1000, .int st]))) r 2 0 K ↔ K (.ref 0) := fun K => fO_of hTY rfl rfl
      have hru : ∀ u, ty_h u (tm r) → r = u := fun u hu => by rw [e1] at hu; exact Nat.add_right_cancel (show r + 3 = u + 3 from hu)
      simp only [x60_0, x60_1, x60_4, x60_5, x60_6, x60_9, x60_12, x60_15, x60_16, x60_19, x60_20, x60_23, x60_24, x60_27, x60_30, x60_31, x60_34, x60_37, x60_40, x60_41, x60_44, x60_47, x60_50, x60_51, x60_54, x60_55, x60_58, x60_59, x60_62, x60_65, x60_68, x60_69, x60_72, x60_73, x60_76, gI_sI, gI_sR, gI_sA, gI_sL, gI_sF, gI_sQ, gI_sG, gI_sN, gR_sI, gR_sR, gR_sA, gR_sL, gR_sF, gR_sQ, gR_sG, gR_sN, gA_sI, gA_sR, gA_sA, gA_sL, gA_sF, gA_sQ, gA_sG, gA_sN, gL_sI, gL_sR, gL_sA, gL_sL, gL_sF, gL_sQ, gL_sG, gL_sN, gF_sI, gF_sR, gF_sA, gF_sL, gF_sF, gF_sQ, gF_sG, gF_sN, gQ_sI, gQ_sR, gQ_sA, gQ_sL, gQ_sF, gQ_sQ, gQ_sG, gQ_sN, gN_sI, gN_sR, gN_sA, gN_sL, gN_sF, gN_sQ, gN_sG, gN_sN, gS_sI, gS_sR, gS_sA, gS_sL, gS_sF, gS_sQ, gS_sG, gS_sN, gO_sI, gO_sR, gO_sA, gO_sL, gO_sF, gO_sQ, gO_sN, isR_ref, isR_null, isR_rf, isR2_ref, isR2_null, isR2_rf, am_k_int, am_k_ref, am_k_null, am_k_rf, am_k_none, am_k_long, am_k_double, rf_some, rf_none, KT_ret, KT_void, XP_ap, true_and, and_true, Nat.reduceAdd, Nat.reduceEqDiff, reduceIte, if_true, if_false, eq_self, true_or, or_true, forall_const, not_true_eq_false, not_false_eq_true, hf0, hf4, hp4, hq0, Value.ref.injEq, false_imp_iff, true_imp_iff, not_false_eq_true]
      refine ⟨fun z => ?_, fun z => ?_⟩
      · refine hQ D L (LVF.refl hL) (fun u hu hlt => ?_) (fun u _ => rfl)
        rw [← hru u hu, ← hrL] at hlt
        exact absurd hlt z
      · refine hQ _ _ hF (fun u hu _ => ?_) (fun u hu => ?_)
        · rw [← hru u hu, upf_eq]
        · refine upf_ne fun e => ?_
          subst e
          rcases hu with hu | hu
          · exact hu (by rw [e1]; rfl)
          · rw [← hrL] at hu; exact hu z
    · simp only [x60_0, x60_1, x60_4, x60_5, x60_6, x60_9, x60_12, x60_15, x60_16, x60_19, x60_20, x60_23, x60_24, x60_27, x60_30, x60_31, x60_34, x60_37, x60_40, x60_41, x60_44, x60_47, x60_50, x60_51, x60_54, x60_55, x60_58, x60_59, x60_62, x60_65, x60_68, x60_69, x60_72, x60_73, x60_76, gI_sI, gI_sR, gI_sA, gI_sL, gI_sF, gI_sQ, gI_sG, gI_sN, gR_sI, gR_sR, gR_sA, gR_sL, gR_sF, gR_sQ, gR_sG, gR_sN, gA_sI, gA_sR, gA_sA, gA_sL, gA_sF, gA_sQ, gA_sG, gA_sN, gL_sI, gL_sR, gL_sA, gL_sL, gL_sF, gL_sQ, gL_sG, gL_sN, gF_sI, gF_sR, gF_sA, gF_sL, gF_sF, gF_sQ, gF_sG, gF_sN, gQ_sI, gQ_sR, gQ_sA, gQ_sL, gQ_sF, gQ_sQ, gQ_sG, gQ_sN, gN_sI, gN_sR, gN_sA, gN_sL, gN_sF, gN_sQ, gN_sG, gN_sN, gS_sI, gS_sR, gS_sA, gS_sL, gS_sF, gS_sQ, gS_sG, gS_sN, gO_sI, gO_sR, gO_sA, gO_sL, gO_sF, gO_sQ, gO_sN, isR_ref, isR_null, isR_rf, isR2_ref, isR2_null, isR2_rf, am_k_int, am_k_ref, am_k_null, am_k_rf, am_k_none, am_k_long, am_k_double, rf_some, rf_none, KT_ret, KT_void, XP_ap, true_and, and_true, Nat.reduceAdd, Nat.reduceEqDiff, reduceIte, if_true, if_false, eq_self, true_or, or_true, forall_const, not_true_eq_false, not_false_eq_true, hf0, Value.ref.injEq, false_imp_iff, true_imp_iff, not_false_eq_true]
      exact base (two1 _ (.inl e1))
    · simp only [x60_0, x60_1, x60_4, x60_5, x60_6, x60_9, x60_12, x60_15, x60_16, x60_19, x60_20, x60_23, x60_24, x60_27, x60_30, x60_31, x60_34, x60_37, x60_40, x60_41, x60_44, x60_47, x60_50, x60_51, x60_54, x60_55, x60_58, x60_59, x60_62, x60_65, x60_68, x60_69, x60_72, x60_73, x60_76, gI_sI, gI_sR, gI_sA, gI_sL, gI_sF, gI_sQ, gI_sG, gI_sN, gR_sI, gR_sR, gR_sA, gR_sL, gR_sF, gR_sQ, gR_sG, gR_sN, gA_sI, gA_sR, gA_sA, gA_sL, gA_sF, gA_sQ, gA_sG, gA_sN, gL_sI, gL_sR, gL_sA, gL_sL, gL_sF, gL_sQ, gL_sG, gL_sN, gF_sI, gF_sR, gF_sA, gF_sL, gF_sF, gF_sQ, gF_sG, gF_sN, gQ_sI, gQ_sR, gQ_sA, gQ_sL, gQ_sF, gQ_sQ, gQ_sG, gQ_sN, gN_sI, gN_sR, gN_sA, gN_sL, gN_sF, gN_sQ, gN_sG, gN_sN, gS_sI, gS_sR, gS_sA, gS_sL, gS_sF, gS_sQ, gS_sG, gS_sN, gO_sI, gO_sR, gO_sA, gO_sL, gO_sF, gO_sQ, gO_sN, isR_ref, isR_null, isR_rf, isR2_ref, isR2_null, isR2_rf, am_k_int, am_k_ref, am_k_null, am_k_rf, am_k_none, am_k_long, am_k_double, rf_some, rf_none, KT_ret, KT_void, XP_ap, true_and, and_true, Nat.reduceAdd, Nat.reduceEqDiff, reduceIte, if_true, if_false, eq_self, true_or, or_true, forall_const, not_true_eq_false, not_false_eq_true, hf0, Value.ref.injEq, false_imp_iff, true_imp_iff, not_false_eq_true]
      exact base (two1 _ (.inr (.inl e1)))
    · simp only [x60_0, x60_1, x60_4, x60_5, x60_6, x60_9, x60_12, x60_15, x60_16, x60_19, x60_20, x60_23, x60_24, x60_27, x60_30, x60_31, x60_34, x60_37, x60_40, x60_41, x60_44, x60_47, x60_50, x60_51, x60_54, x60_55, x60_58, x60_59, x60_62, x60_65, x60_68, x60_69, x60_72, x60_73, x60_76, gI_sI, gI_sR, gI_sA, gI_sL, gI_sF, gI_sQ, gI_sG, gI_sN, gR_sI, gR_sR, gR_sA, gR_sL, gR_sF, gR_sQ, gR_sG, gR_sN, gA_sI, gA_sR, gA_sA, gA_sL, gA_sF, gA_sQ, gA_sG, gA_sN, gL_sI, gL_sR, gL_sA, gL_sL, gL_sF, gL_sQ, gL_sG, gL_sN, gF_sI, gF_sR, gF_sA, gF_sL, gF_sF, gF_sQ, gF_sG, gF_sN, gQ_sI, gQ_sR, gQ_sA, gQ_sL, gQ_sF, gQ_sQ, gQ_sG, gQ_sN, gN_sI, gN_sR, gN_sA, gN_sL, gN_sF, gN_sQ, gN_sG, gN_sN, gS_sI, gS_sR, gS_sA, gS_sL, gS_sF, gS_sQ, gS_sG, gS_sN, gO_sI, gO_sR, gO_sA, gO_sL, gO_sF, gO_sQ, gO_sN, isR_ref, isR_null, isR_rf, isR2_ref, isR2_null, isR2_rf, am_k_int, am_k_ref, am_k_null, am_k_rf, am_k_none, am_k_long, am_k_double, rf_some, rf_none, KT_ret, KT_void, XP_ap, true_and, and_true, Nat.reduceAdd, Nat.reduceEqDiff, reduceIte, if_true, if_false, eq_self, true_or, or_true, forall_const, not_true_eq_false, not_false_eq_true, hf0, Value.ref.injEq, false_imp_iff, true_imp_iff, not_false_eq_true]
      exact base (two1 _ (.inr (.inr e1)))
    · subst e0
      have hwb : ty_w (tm b) + 2 ≤ w + 1 := by rw [e3] at hw; exact hw
      have hh : ∀ u, ty_h u (tm r) ↔ ty_h u (tm b) := fun u => by rw [e3]; rfl
      simp only [x60_0, x60_1, x60_4, x60_5, x60_6, x60_9, x60_12, x60_15, x60_16, x60_19, x60_20, x60_23, x60_24, x60_27, x60_30, x60_31, x60_34, x60_37, x60_40, x60_41, x60_44, x60_47, x60_50, x60_51, x60_54, x60_55, x60_58, x60_59, x60_62, x60_65, x60_68, x60_69, x60_72, x60_73, x60_76, gI_sI, gI_sR, gI_sA, gI_sL, gI_sF, gI_sQ, gI_sG, gI_sN, gR_sI, gR_sR, gR_sA, gR_sL, gR_sF, gR_sQ, gR_sG, gR_sN, gA_sI, gA_sR, gA_sA, gA_sL, gA_sF, gA_sQ, gA_sG, gA_sN, gL_sI, gL_sR, gL_sA, gL_sL, gL_sF, gL_sQ, gL_sG, gL_sN, gF_sI, gF_sR, gF_sA, gF_sL, gF_sF, gF_sQ, gF_sG, gF_sN, gQ_sI, gQ_sR, gQ_sA, gQ_sL, gQ_sF, gQ_sQ, gQ_sG, gQ_sN, gN_sI, gN_sR, gN_sA, gN_sL, gN_sF, gN_sQ, gN_sG, gN_sN, gS_sI, gS_sR, gS_sA, gS_sL, gS_sF, gS_sQ, gS_sG, gS_sN, gO_sI, gO_sR, gO_sA, gO_sL, gO_sF, gO_sQ, gO_sN, isR_ref, isR_null, isR_rf, isR2_ref, isR2_null, isR2_rf, am_k_int, am_k_ref, am_k_null, am_k_rf, am_k_none, am_k_long, am_k_double, rf_some, rf_none, KT_ret, KT_void, XP_ap, true_and, and_true, Nat.reduceAdd, Nat.reduceEqDiff, reduceIte, if_true, if_false, eq_self, true_or, or_true, forall_const, not_true_eq_false, not_false_eq_true, hf0, hf1, Value.ref.injEq, false_imp_iff, true_imp_iff, not_false_eq_true]
      refine ih b d' D L lvl _ hH hL e2 (by omega) (by omega) hlv fun D' L' hF k1 k2 => ?_
      have hTY := hF.2.2 _ _ _ _ _ _ _ ht
      have hq0 : ∀ K, fO D' r 2 0 K ↔ K (.ref 4) := fun K => fO_of hTY rfl rfl
      simp only [x60_0, x60_1, x60_4, x60_5, x60_6, x60_9, x60_12, x60_15, x60_16, x60_19, x60_20, x60_23, x60_24, x60_27, x60_30, x60_31, x60_34, x60_37, x60_40, x60_41, x60_44, x60_47, x60_50, x60_51, x60_54, x60_55, x60_58, x60_59, x60_62, x60_65, x60_68, x60_69, x60_72, x60_73, x60_76, gI_sI, gI_sR, gI_sA, gI_sL, gI_sF, gI_sQ, gI_sG, gI_sN, gR_sI, gR_sR, gR_sA, gR_sL, gR_sF, gR_sQ, gR_sG, gR_sN, gA_sI, gA_sR, gA_sA, gA_sL, gA_sF, gA_sQ, gA_sG, gA_sN, gL_sI, gL_sR, gL_sA, gL_sL, gL_sF, gL_sQ, gL_sG, gL_sN, gF_sI, gF_sR, gF_sA, gF_sL, gF_sF, gF_sQ, gF_sG, gF_sN, gQ_sI, gQ_sR, gQ_sA, gQ_sL, gQ_sF, gQ_sQ, gQ_sG, gQ_sN, gN_sI, gN_sR, gN_sA, gN_sL, gN_sF, gN_sQ, gN_sG, gN_sN, gS_sI, gS_sR, gS_sA, gS_sL, gS_sF, gS_sQ, gS_sG, gS_sN, gO_sI, gO_sR, gO_sA, gO_sL, gO_sF, gO_sQ, gO_sN, isR_ref, isR_null, isR_rf, isR2_ref, isR2_null, isR2_rf, am_k_int, am_k_ref, am_k_null, am_k_rf, am_k_none, am_k_long, am_k_double, rf_some, rf_none, KT_ret, KT_void, XP_ap, true_and, and_true, Nat.reduceAdd, Nat.reduceEqDiff, reduceIte, if_true, if_false, eq_self, true_or, or_true, forall_const, not_true_eq_false, not_false_eq_true, hq0, Value.ref.injEq, false_imp_iff, true_imp_iff, not_false_eq_true]
      exact hQ D' L' hF (fun u hu => k1 u ((hh u).mp hu)) (fun u hu => k2 u (hu.imp (fun z y => z ((hh u).mpr y)) id))
    · subst e0 e0'
      have hwb : ty_w (tm b) + ty_w (tm c) + 3 ≤ w + 1 := by rw [e5] at hw; exact hw
      have hh : ∀ u, ty_h u (tm r) ↔ ty_h u (tm b) ∨ ty_h u (tm c) := fun u => by rw [e5]; rfl
      simp only [x60_0, x60_1, x60_4, x60_5, x60_6, x60_9, x60_12, x60_15, x60_16, x60_19, x60_20, x60_23, x60_24, x60_27, x60_30, x60_31, x60_34, x60_37, x60_40, x60_41, x60_44, x60_47, x60_50, x60_51, x60_54, x60_55, x60_58, x60_59, x60_62, x60_65, x60_68, x60_69, x60_72, x60_73, x60_76, gI_sI, gI_sR, gI_sA, gI_sL, gI_sF, gI_sQ, gI_sG, gI_sN, gR_sI, gR_sR, gR_sA, gR_sL, gR_sF, gR_sQ, gR_sG, gR_sN, gA_sI, gA_sR, gA_sA, gA_sL, gA_sF, gA_sQ, gA_sG, gA_sN, gL_sI, gL_sR, gL_sA, gL_sL, gL_sF, gL_sQ, gL_sG, gL_sN, gF_sI, gF_sR, gF_sA, gF_sL, gF_sF, gF_sQ, gF_sG, gF_sN, gQ_sI, gQ_sR, gQ_sA, gQ_sL, gQ_sF, gQ_sQ, gQ_sG, gQ_sN, gN_sI, gN_sR, gN_sA, gN_sL, gN_sF, gN_sQ, gN_sG, gN_sN, gS_sI, gS_sR, gS_sA, gS_sL, gS_sF, gS_sQ, gS_sG, gS_sN, gO_sI, gO_sR, gO_sA, gO_sL, gO_sF, gO_sQ, gO_sN, isR_ref, isR_null, isR_rf, isR2_ref, isR2_null, isR2_rf, am_k_int, am_k_ref, am_k_null, am_k_rf, am_k_none, am_k_long, am_k_double, rf_some, rf_none, KT_ret, KT_void, XP_ap, true_and, and_true, Nat.reduceAdd, Nat.reduceEqDiff, reduceIte, if_true, if_false, eq_self, true_or, or_true, forall_const, not_true_eq_false, not_false_eq_true, hf0, hf1, Value.ref.injEq, false_imp_iff, true_imp_iff, not_false_eq_true]
      refine ih b d' D L lvl _ hH hL e3 (by omega) (by omega) hlv fun D' L' hF k1 k2 => ?_
      have hTY := hF.2.2 _ _ _ _ _ _ _ ht
      have hq0 : ∀ K, fO D' r 2 0 K ↔ K (.ref 5) := fun K => fO_of hTY rfl rfl
      have hq2 : ∀ K, fO D' r 2 2 K ↔ K (va_rf (some c)) := fun K => fO_of hTY rfl rfl
      simp only [x60_0, x60_1, x60_4, x60_5, x60_6, x60_9, x60_12, x60_15, x60_16, x60_19, x60_20, x60_23, x60_24, x60_27, x60_30, x60_31, x60_34, x60_37, x60_40, x60_41, x60_44, x60_47, x60_50, x60_51, x60_54, x60_55, x60_58, x60_59, x60_62, x60_65, x60_68, x60_69, x60_72, x60_73, x60_76, gI_sI, gI_sR, gI_sA, gI_sL, gI_sF, gI_sQ, gI_sG, gI_sN, gR_sI, gR_sR, gR_sA, gR_sL, gR_sF, gR_sQ, gR_sG, gR_sN, gA_sI, gA_sR, gA_sA, gA_sL, gA_sF, gA_sQ, gA_sG, gA_sN, gL_sI, gL_sR, gL_sA, gL_sL, gL_sF, gL_sQ, gL_sG, gL_sN, gF_sI, gF_sR, gF_sA, gF_sL, gF_sF, gF_sQ, gF_sG, gF_sN, gQ_sI, gQ_sR, gQ_sA, gQ_sL, gQ_sF, gQ_sQ, gQ_sG, gQ_sN, gN_sI, gN_sR, gN_sA, gN_sL, gN_sF, gN_sQ, gN_sG, gN_sN, gS_sI, gS_sR, gS_sA, gS_sL, gS_sF, gS_sQ, gS_sG, gS_sN, gO_sI, gO_sR, gO_sA, gO_sL, gO_sF, gO_sQ, gO_sN, isR_ref, isR_null, isR_rf, isR2_ref, isR2_null, isR2_rf, am_k_int, am_k_ref, am_k_null, am_k_rf, am_k_none, am_k_long, am_k_double, rf_some, rf_none, KT_ret, KT_void, XP_ap, true_and, and_true, Nat.reduceAdd, Nat.reduceEqDiff, reduceIte, if_true, if_false, eq_self, true_or, or_true, forall_const, not_true_eq_false, not_false_eq_true, hq0, hq2, Value.ref.injEq, false_imp_iff, true_imp_iff, not_false_eq_true]
      refine ih c d' D' L' lvl _ (hH.lvf hF) hF.lvl (hF.ist.mpr e4) (by omega) (by omega) hlv fun D2 L2 hF2 m1 m2 => ?_
      simp only [x60_0, x60_1, x60_4, x60_5, x60_6, x60_9, x60_12, x60_15, x60_16, x60_19, x60_20, x60_23, x60_24, x60_27, x60_30, x60_31, x60_34, x60_37, x60_40, x60_41, x60_44, x60_47, x60_50, x60_51, x60_54, x60_55, x60_58, x60_59, x60_62, x60_65, x60_68, x60_69, x60_72, x60_73, x60_76, gI_sI, gI_sR, gI_sA, gI_sL, gI_sF, gI_sQ, gI_sG, gI_sN, gR_sI, gR_sR, gR_sA, gR_sL, gR_sF, gR_sQ, gR_sG, gR_sN, gA_sI, gA_sR, gA_sA, gA_sL, gA_sF, gA_sQ, gA_sG, gA_sN, gL_sI, gL_sR, gL_sA, gL_sL, gL_sF, gL_sQ, gL_sG, gL_sN, gF_sI, gF_sR, gF_sA, gF_sL, gF_sF, gF_sQ, gF_sG, gF_sN, gQ_sI, gQ_sR, gQ_sA, gQ_sL, gQ_sF, gQ_sQ, gQ_sG, gQ_sN, gN_sI, gN_sR, gN_sA, gN_sL, gN_sF, gN_sQ, gN_sG, gN_sN, gS_sI, gS_sR, gS_sA, gS_sL, gS_sF, gS_sQ, gS_sG, gS_sN, gO_sI, gO_sR, gO_sA, gO_sL, gO_sF, gO_sQ, gO_sN, isR_ref, isR_null, isR_rf, isR2_ref, isR2_null, isR2_rf, am_k_int, am_k_ref, am_k_null, am_k_rf, am_k_none, am_k_long, am_k_double, rf_some, rf_none, KT_ret, KT_void, XP_ap, true_and, and_true, Nat.reduceAdd, Nat.reduceEqDiff, reduceIte, if_true, if_false, eq_self, true_or, or_true, forall_const, not_true_eq_false, not_false_eq_true]
      refine hQ D2 L2 (hF.trans hF2) (fun u hu hlt => ?_) (fun u hu => ?_)
      · by_cases hb : ty_h u (tm b)
        · have e6 := k1 u hb hlt
          by_cases hc : ty_h u (tm c)
          · exact m1 u hc (by rw [e6]; exact hlv)
          · rw [m2 u (.inl hc), e6]
        · have hc := ((hh u).mp hu).resolve_left hb
          exact m1 u hc (by rw [k2 u (.inl hb)]; exact hlt)
      · have e6 : L' u = L u := by
          rcases hu with z | z
          · exact k2 u (.inl fun y => z ((hh u).mpr (.inl y)))
          · exact k2 u (.inr z)
        rw [m2 u, e6]
        rcases hu with z | z
        · exact .inl fun y => z ((hh u).mpr (.inr y))
        · exact .inr (by rw [e6]; exact z)
end TFF
