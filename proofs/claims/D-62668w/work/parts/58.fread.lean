/-! FunDesk, reading: the chains of operands, 2 -/
set_option maxRecDepth 100000
section RE
variable {d : Nat} {D : sS} {Q : am_O → am_H → Prop} {tx : Nat → Int32} {n p dep f : Nat} {bn : Int32} {acc : tE} {r : Option (tE × Nat × Int32)}
theorem i32_of {c : Int32} (h : 0 ≤ c) : i32 (nat c) = c := by
  unfold nat i32
  exact Int32.ofNat_toNatClampNeg _ h
theorem hr_pos (hT : TF D tx n) : 0 ≤ hr tx n p := by
  rcases hr_ch (p := p) hT with h | ⟨_, h1, h2⟩
  · rw [h]; decide
  · exact Int32.le_trans (by decide) h1
theorem sgn_le {k : Nat} (hp : p ≤ n) : p ≤ (sgn tx n k p).2 ∧ (sgn tx n k p).2 ≤ n ∧ ((¬ (sgn tx n k p).1 = 0) → p < (sgn tx n k p).2) := by
  have h1 := sk_le (tx := tx) (n := n) (p := p)
  have h2 := sk_lt (tx := tx) hp
  cases h : sgt k (hr tx n (sk tx n p)) with
  | false => rw [sgn_n h]; exact ⟨h1, h2, fun z => absurd rfl z⟩
  | true =>
    rw [sgn_y h]
    dsimp only
    have h3 : sk tx n p < n := by
      refine Decidable.byContradiction fun z => ?_
      rw [hr_out z] at h
      unfold sgt at h
      revert h
      split
      · decide
      · split <;> decide
    split
    · rename_i h4
      have := ch_lt h4.1 (by decide)
      omega
    · omega
theorem sgn_i {k : Nat} : i32 (nat (sgn tx n k p).1) = (sgn tx n k p).1 := by
  cases h : sgt k (hr tx n (sk tx n p)) with
  | false => rw [sgn_n h]; rfl
  | true =>
    rw [sgn_y h]
    dsimp only
    unfold sgt at h
    have h9 : hr tx n (sk tx n p) = 60 ∨ hr tx n (sk tx n p) = 61 ∨ hr tx n (sk tx n p) = 43 ∨ hr tx n (sk tx n p) = 45 ∨ hr tx n (sk tx n p) = 42 ∨ hr tx n (sk tx n p) = 47 := by
      revert h
      split
      · simp only [Bool.or_eq_true, beq_iff_eq]; rintro (h | h) <;> simp [h]
      · split <;> simp only [Bool.or_eq_true, beq_iff_eq] <;> rintro (h | h) <;> simp [h]
    split <;> rcases h9 with h | h | h | h | h | h <;> rw [h] <;> rfl
/-- 2 COMPARE -/
theorem c_comp (ih : CT tx n f) (hP : PR tx n (f + 1) 2 p dep bn acc = some r) (hT : TF D tx n) (hp : gI D 141 = i32 p) (hpn : p ≤ n) (hdep : gI D 142 = i32 dep) (hd16 : dep ≤ 16) (hR : RM D (3 * (n - p) + 2)) (hd : 3 * (f + 1) + 4 ≤ d) (hQ : RP Q D n p dep 2 r) : AC d 32 [.ref 25] (toH D) Q := by
  refine AC.pos (k := 3 * f + 6) (by omega) fun d' hd' => ?_
  rw [e32]
  simp only [x32_0, x32_1, x32_4, x32_5, x32_6, x32_7, x32_10, x32_11, x32_12, x32_15, x32_16, x32_19, x32_22, x32_22f, x32_23, x32_24, x32_25, x32_26, x32_29, x32_32, gI_sI, gI_sR, gI_sA, gI_sL, gI_sF, gI_sQ, gI_sG, gI_sN, gR_sI, gR_sR, gR_sA, gR_sL, gR_sF, gR_sQ, gR_sG, gR_sN, gA_sI, gA_sR, gA_sA, gA_sL, gA_sF, gA_sQ, gA_sG, gA_sN, gL_sI, gL_sR, gL_sA, gL_sL, gL_sF, gL_sQ, gL_sG, gL_sN, gF_sI, gF_sR, gF_sA, gF_sL, gF_sF, gF_sQ, gF_sG, gF_sN, gQ_sI, gQ_sR, gQ_sA, gQ_sL, gQ_sF, gQ_sQ, gQ_sG, gQ_sN, gN_sI, gN_sR, gN_sA, gN_sL, gN_sF, gN_sQ, gN_sG, gN_sN, gS_sI, gS_sR, gS_sA, gS_sL, gS_sF, gS_sQ, gS_sG, gS_sN, gO_sI, gO_sR, gO_sA, gO_sL, gO_sF, gO_sQ, gO_sN, isR_ref, isR_null, isR_rf, isR2_ref, isR2_null, isR2_rf, am_k_int, am_k_ref, am_k_null, am_k_rf, am_k_none, am_k_long, am_k_double, rf_some, rf_none, KT_ret, KT_void, XP_ap, true_and, and_true, Nat.reduceAdd, Nat.reduceEqDiff, reduceIte, if_true, if_false, eq_self, true_or, or_true, forall_const, not_true_eq_false, not_false_eq_true]
  have hn := hT.2.1
  unfold PR at hP
  refine ih.call (g := 3) hP (by omega) hT hp hpn hdep hd16 (by omega) hR (by omega) (fun hr D' x hF hN => by rw [KT_thr rfl]; exact hQ.thr hr D' x hF hN) ?_
  intro e p1 b1 D' a hP hF h141 h142 _ hp1 hlt hN hX hT'
  simp only [x32_0, x32_1, x32_4, x32_5, x32_6, x32_7, x32_10, x32_11, x32_12, x32_15, x32_16, x32_19, x32_22, x32_22f, x32_23, x32_24, x32_25, x32_26, x32_29, x32_32, gI_sI, gI_sR, gI_sA, gI_sL, gI_sF, gI_sQ, gI_sG, gI_sN, gR_sI, gR_sR, gR_sA, gR_sL, gR_sF, gR_sQ, gR_sG, gR_sN, gA_sI, gA_sR, gA_sA, gA_sL, gA_sF, gA_sQ, gA_sG, gA_sN, gL_sI, gL_sR, gL_sA, gL_sL, gL_sF, gL_sQ, gL_sG, gL_sN, gF_sI, gF_sR, gF_sA, gF_sL, gF_sF, gF_sQ, gF_sG, gF_sN, gQ_sI, gQ_sR, gQ_sA, gQ_sL, gQ_sF, gQ_sQ, gQ_sG, gQ_sN, gN_sI, gN_sR, gN_sA, gN_sL, gN_sF, gN_sQ, gN_sG, gN_sN, gS_sI, gS_sR, gS_sA, gS_sL, gS_sF, gS_sQ, gS_sG, gS_sN, gO_sI, gO_sR, gO_sA, gO_sL, gO_sF, gO_sQ, gO_sN, isR_ref, isR_null, isR_rf, isR2_ref, isR2_null, isR2_rf, am_k_int, am_k_ref, am_k_null, am_k_rf, am_k_none, am_k_long, am_k_double, rf_some, rf_none, KT_ret, KT_void, XP_ap, true_and, and_true, Nat.reduceAdd, Nat.reduceEqDiff, reduceIte, if_true, if_false, eq_self, true_or, or_true, forall_const, not_true_eq_false, not_false_eq_true]
  have hs := sgn_le (tx := tx) (k := 0) hp1
  have hsi := sgn_i (tx := tx) (n := n) (k := 0) (p := p1)
  refine f_sign (k := 0) hT' h141 (by omega) (by omega) (by omega) ?_
  simp only [x32_0, x32_1, x32_4, x32_5, x32_6, x32_7, x32_10, x32_11, x32_12, x32_15, x32_16, x32_19, x32_22, x32_22f, x32_23, x32_24, x32_25, x32_26, x32_29, x32_32, gI_sI, gI_sR, gI_sA, gI_sL, gI_sF, gI_sQ, gI_sG, gI_sN, gR_sI, gR_sR, gR_sA, gR_sL, gR_sF, gR_sQ, gR_sG, gR_sN, gA_sI, gA_sR, gA_sA, gA_sL, gA_sF, gA_sQ, gA_sG, gA_sN, gL_sI, gL_sR, gL_sA, gL_sL, gL_sF, gL_sQ, gL_sG, gL_sN, gF_sI, gF_sR, gF_sA, gF_sL, gF_sF, gF_sQ, gF_sG, gF_sN, gQ_sI, gQ_sR, gQ_sA, gQ_sL, gQ_sF, gQ_sQ, gQ_sG, gQ_sN, gN_sI, gN_sR, gN_sA, gN_sL, gN_sF, gN_sQ, gN_sG, gN_sN, gS_sI, gS_sR, gS_sA, gS_sL, gS_sF, gS_sQ, gS_sG, gS_sN, gO_sI, gO_sR, gO_sA, gO_sL, gO_sF, gO_sQ, gO_sN, isR_ref, isR_null, isR_rf, isR2_ref, isR2_null, isR2_rf, am_k_int, am_k_ref, am_k_null, am_k_rf, am_k_none, am_k_long, am_k_double, rf_some, rf_none, KT_ret, KT_void, XP_ap, true_and, and_true, Nat.reduceAdd, Nat.reduceEqDiff, reduceIte, if_true, if_false, eq_self, true_or, or_true, forall_const, not_true_eq_false, not_false_eq_true]
  refine ⟨fun hc => ?_, fun hc => ?_⟩
  · rw [if_neg hc] at hP
    have hR' : RM (sI D' 141 (i32 (sgn tx n 0 p1).2)) (3 * (n - (sgn tx n 0 p1).2) + 4) := hR.go hF.at_ (by rw [gN_sI]; have := hs.2.2 hc; omega)
    have hlt1 := hs.2.2 hc
    refine ⟨hR'.cap (by omega) (by omega), ?_⟩
    have hF1 : FP D' (sN (sI D' 141 (i32 (sgn tx n 0 p1).2)) (.inr (6, [.int 0, .null, .null])) 3) := FP.refl.at_.new (by omega)
    generalize hD1 : sN (sI D' 141 (i32 (sgn tx n 0 p1).2)) (.inr (6, [.int 0, .null, .null])) 3 = D1 at hF1
    have hN1 : gN D1 = gN D' + 1 := by rw [← hD1]; rfl
    refine ih.call (g := 3) hP (by omega) (hF1.tf hT') (by rw [← hD1]; rfl) (by omega) (by rw [← hD1]; exact h142) hd16 (by omega) (hR'.go (D' := D1) (by rw [← hD1]; exact FP.refl.new (by omega)) (by rw [hN1, gN_sI]; omega)) (by omega) (fun hr D2 x hF2 hN2 => by rw [KT_thr rfl]; exact hQ.thr hr D2 x (hF.trans (hF1.trans hF2)) (by omega)) ?_
    intro e2 p2 b2 D2 a2 hP2 hF2 h141 h142 _ hp2 hlt2 hN2 hX2 hT2
    simp only [x32_0, x32_1, x32_4, x32_5, x32_6, x32_7, x32_10, x32_11, x32_12, x32_15, x32_16, x32_19, x32_22, x32_22f, x32_23, x32_24, x32_25, x32_26, x32_29, x32_32, gI_sI, gI_sR, gI_sA, gI_sL, gI_sF, gI_sQ, gI_sG, gI_sN, gR_sI, gR_sR, gR_sA, gR_sL, gR_sF, gR_sQ, gR_sG, gR_sN, gA_sI, gA_sR, gA_sA, gA_sL, gA_sF, gA_sQ, gA_sG, gA_sN, gL_sI, gL_sR, gL_sA, gL_sL, gL_sF, gL_sQ, gL_sG, gL_sN, gF_sI, gF_sR, gF_sA, gF_sL, gF_sF, gF_sQ, gF_sG, gF_sN, gQ_sI, gQ_sR, gQ_sA, gQ_sL, gQ_sF, gQ_sQ, gQ_sG, gQ_sN, gN_sI, gN_sR, gN_sA, gN_sL, gN_sF, gN_sQ, gN_sG, gN_sN, gS_sI, gS_sR, gS_sA, gS_sL, gS_sF, gS_sQ, gS_sG, gS_sN, gO_sI, gO_sR, gO_sA, gO_sL, gO_sF, gO_sQ, gO_sN, isR_ref, isR_null, isR_rf, isR2_ref, isR2_null, isR2_rf, am_k_int, am_k_ref, am_k_null, am_k_rf, am_k_none, am_k_long, am_k_double, rf_some, rf_none, KT_ret, KT_void, XP_ap, true_and, and_true, Nat.reduceAdd, Nat.reduceEqDiff, reduceIte, if_true, if_false, eq_self, true_or, or_true, forall_const, not_true_eq_false, not_false_eq_true]
    have ho : gO D2 (82 + gN D') = some (.inr (6, [.int 0, .null, .null])) := by rw [hF2.obj (by omega), ← hD1]; exact gO_new
    refine f_oper (by omega) ho ?_
    simp only [x32_0, x32_1, x32_4, x32_5, x32_6, x32_7, x32_10, x32_11, x32_12, x32_15, x32_16, x32_19, x32_22, x32_22f, x32_23, x32_24, x32_25, x32_26, x32_29, x32_32, gI_sI, gI_sR, gI_sA, gI_sL, gI_sF, gI_sQ, gI_sG, gI_sN, gR_sI, gR_sR, gR_sA, gR_sL, gR_sF, gR_sQ, gR_sG, gR_sN, gA_sI, gA_sR, gA_sA, gA_sL, gA_sF, gA_sQ, gA_sG, gA_sN, gL_sI, gL_sR, gL_sA, gL_sL, gL_sF, gL_sQ, gL_sG, gL_sN, gF_sI, gF_sR, gF_sA, gF_sL, gF_sF, gF_sQ, gF_sG, gF_sN, gQ_sI, gQ_sR, gQ_sA, gQ_sL, gQ_sF, gQ_sQ, gQ_sG, gQ_sN, gN_sI, gN_sR, gN_sA, gN_sL, gN_sF, gN_sQ, gN_sG, gN_sN, gS_sI, gS_sR, gS_sA, gS_sL, gS_sF, gS_sQ, gS_sG, gS_sN, gO_sI, gO_sR, gO_sA, gO_sL, gO_sF, gO_sQ, gO_sN, isR_ref, isR_null, isR_rf, isR2_ref, isR2_null, isR2_rf, am_k_int, am_k_ref, am_k_null, am_k_rf, am_k_none, am_k_long, am_k_double, rf_some, rf_none, KT_ret, KT_void, XP_ap, true_and, and_true, Nat.reduceAdd, Nat.reduceEqDiff, reduceIte, if_true, if_false, eq_self, true_or, or_true, forall_const, not_true_eq_false, not_false_eq_true]
    refine hQ.ret hP2 _ _ (FP.wr (by have := hF.2.2.2.2.2.2.2.1; omega) (hF.trans (hF1.trans hF2))) h141 h142 (by omega) hp2 (by rw [gN_sG]; omega) ?_
    have := EX.two (s := nat (sgn tx n 0 p1).1) hX hF1 hN1 hF2 ho hX2 (by have := hF.2.2.2.2.2.2.2.1; omega)
    rw [hsi] at this
    exact this
  · rw [if_pos hc] at hP
    exact hQ.ret hP _ _ hF.at_ rfl h142 (by omega) hs.2.1 (by rw [gN_sI]; omega) hX
/-- 3 chain -/
theorem c_sum (ih : ∀ j, j ≤ f → CT tx n j) (hP : PR tx n (f + 1) 3 p dep bn acc = some r) (hT : TF D tx n) (hp : gI D 141 = i32 p) (hpn : p ≤ n) (hdep : gI D 142 = i32 dep) (hd16 : dep ≤ 16) (hR : RM D (3 * (n - p) + 2)) (hd : 3 * (f + 1) + 4 ≤ d) (hQ : RP Q D n p dep 3 r) : AC d 33 [.ref 25] (toH D) Q := by
  refine AC.pos (k := 3 * f + 6) (by omega) fun d' hd' => ?_
  rw [e33]
  simp only [x33_0, x33_1, x33_4, x33_5, x33_6, x33_7, x33_10, x33_12, x33_15, x33_18, x33_18f, x33_19, x33_20, x33_21, x33_22, x33_25, x33_28, x33_29, x33_30, x33_31, x33_34, x33_35, x33_38, x33_39, gI_sI, gI_sR, gI_sA, gI_sL, gI_sF, gI_sQ, gI_sG, gI_sN, gR_sI, gR_sR, gR_sA, gR_sL, gR_sF, gR_sQ, gR_sG, gR_sN, gA_sI, gA_sR, gA_sA, gA_sL, gA_sF, gA_sQ, gA_sG, gA_sN, gL_sI, gL_sR, gL_sA, gL_sL, gL_sF, gL_sQ, gL_sG, gL_sN, gF_sI, gF_sR, gF_sA, gF_sL, gF_sF, gF_sQ, gF_sG, gF_sN, gQ_sI, gQ_sR, gQ_sA, gQ_sL, gQ_sF, gQ_sQ, gQ_sG, gQ_sN, gN_sI, gN_sR, gN_sA, gN_sL, gN_sF, gN_sQ, gN_sG, gN_sN, gS_sI, gS_sR, gS_sA, gS_sL, gS_sF, gS_sQ, gS_sG, gS_sN, gO_sI, gO_sR, gO_sA, gO_sL, gO_sF, gO_sQ, gO_sN, isR_ref, isR_null, isR_rf, isR2_ref, isR2_null, isR2_rf, am_k_int, am_k_ref, am_k_null, am_k_rf, am_k_none, am_k_long, am_k_double, rf_some, rf_none, KT_ret, KT_void, XP_ap, true_and, and_true, Nat.reduceAdd, Nat.reduceEqDiff, reduceIte, if_true, if_false, eq_self, true_or, or_true, forall_const, not_true_eq_false, not_false_eq_true]
  have hn := hT.2.1
  unfold PR at hP
  refine (ih f (Nat.le_refl _)).call (g := 4) hP (by omega) hT hp hpn hdep hd16 (by omega) hR (by omega) (fun hr D' x hF hN => by rw [KT_thr rfl]; exact hQ.thr hr D' x hF hN) ?_
  intro e p1 b1 D' a hP hF h141 h142 _ hp1 hlt hN hX hT'
  simp only [x33_0, x33_1, x33_4, x33_5, x33_6, x33_7, x33_10, x33_12, x33_15, x33_18, x33_18f, x33_19, x33_20, x33_21, x33_22, x33_25, x33_28, x33_29, x33_30, x33_31, x33_34, x33_35, x33_38, x33_39, gI_sI, gI_sR, gI_sA, gI_sL, gI_sF, gI_sQ, gI_sG, gI_sN, gR_sI, gR_sR, gR_sA, gR_sL, gR_sF, gR_sQ, gR_sG, gR_sN, gA_sI, gA_sR, gA_sA, gA_sL, gA_sF, gA_sQ, gA_sG, gA_sN, gL_sI, gL_sR, gL_sA, gL_sL, gL_sF, gL_sQ, gL_sG, gL_sN, gF_sI, gF_sR, gF_sA, gF_sL, gF_sF, gF_sQ, gF_sG, gF_sN, gQ_sI, gQ_sR, gQ_sA, gQ_sL, gQ_sF, gQ_sQ, gQ_sG, gQ_sN, gN_sI, gN_sR, gN_sA, gN_sL, gN_sF, gN_sQ, gN_sG, gN_sN, gS_sI, gS_sR, gS_sA, gS_sL, gS_sF, gS_sQ, gS_sG, gS_sN, gO_sI, gO_sR, gO_sA, gO_sL, gO_sF, gO_sQ, gO_sN, isR_ref, isR_null, isR_rf, isR2_ref, isR2_null, isR2_rf, am_k_int, am_k_ref, am_k_null, am_k_rf, am_k_none, am_k_long, am_k_double, rf_some, rf_none, KT_ret, KT_void, XP_ap, true_and, and_true, Nat.reduceAdd, Nat.reduceEqDiff, reduceIte, if_true, if_false, eq_self, true_or, or_true, forall_const, not_true_eq_false, not_false_eq_true]
  refine f_sign (k := 1) hT' h141 (by omega) (by omega) (by omega) ?_
  simp only [x33_0, x33_1, x33_4, x33_5, x33_6, x33_7, x33_10, x33_12, x33_15, x33_18, x33_18f, x33_19, x33_20, x33_21, x33_22, x33_25, x33_28, x33_29, x33_30, x33_31, x33_34, x33_35, x33_38, x33_39, gI_sI, gI_sR, gI_sA, gI_sL, gI_sF, gI_sQ, gI_sG, gI_sN, gR_sI, gR_sR, gR_sA, gR_sL, gR_sF, gR_sQ, gR_sG, gR_sN, gA_sI, gA_sR, gA_sA, gA_sL, gA_sF, gA_sQ, gA_sG, gA_sN, gL_sI, gL_sR, gL_sA, gL_sL, gL_sF, gL_sQ, gL_sG, gL_sN, gF_sI, gF_sR, gF_sA, gF_sL, gF_sF, gF_sQ, gF_sG, gF_sN, gQ_sI, gQ_sR, gQ_sA, gQ_sL, gQ_sF, gQ_sQ, gQ_sG, gQ_sN, gN_sI, gN_sR, gN_sA, gN_sL, gN_sF, gN_sQ, gN_sG, gN_sN, gS_sI, gS_sR, gS_sA, gS_sL, gS_sF, gS_sQ, gS_sG, gS_sN, gO_sI, gO_sR, gO_sA, gO_sL, gO_sF, gO_sQ, gO_sN, isR_ref, isR_null, isR_rf, isR2_ref, isR2_null, isR2_rf, am_k_int, am_k_ref, am_k_null, am_k_rf, am_k_none, am_k_long, am_k_double, rf_some, rf_none, KT_ret, KT_void, XP_ap, true_and, and_true, Nat.reduceAdd, Nat.reduceEqDiff, reduceIte, if_true, if_false, eq_self, true_or, or_true, forall_const, not_true_eq_false, not_false_eq_true]
  have key : ∀ j, j ≤ f → ∀ (acc : tE) (p1 : Nat) (D' : sS) (a : Nat), PR tx n j 13 p1 dep 0 acc = some r → FP D D' → p1 ≤ n → gI D' 141 = i32 (sgn tx n 1 p1).2 → gI D' 142 = i32 dep → gN D' + 3 * p + 1 ≤ gN D + 3 * p1 → EX (gO D') (82 + gN D) (82 + gN D') acc none a → XW 33 d' Q 11 [some (.ref 25), some (.ref a), some (.int (sgn tx n 1 p1).1)] [] (toH D') := by
    intro j
    induction j with
    | zero => intro _ acc p1 D' a h; cases h
    | succ j ij =>
      intro hj acc p1 D' a hP hF hp1 h141 h142 hN hX
      have hT' := hF.tf hT
      have hs := sgn_le (tx := tx) (k := 1) hp1
      have hsi := sgn_i (tx := tx) (n := n) (k := 1) (p := p1)
      unfold PR at hP
      rw [x33_11]
      simp only [x33_0, x33_1, x33_4, x33_5, x33_6, x33_7, x33_10, x33_12, x33_15, x33_18, x33_18f, x33_19, x33_20, x33_21, x33_22, x33_25, x33_28, x33_29, x33_30, x33_31, x33_34, x33_35, x33_38, x33_39, gI_sI, gI_sR, gI_sA, gI_sL, gI_sF, gI_sQ, gI_sG, gI_sN, gR_sI, gR_sR, gR_sA, gR_sL, gR_sF, gR_sQ, gR_sG, gR_sN, gA_sI, gA_sR, gA_sA, gA_sL, gA_sF, gA_sQ, gA_sG, gA_sN, gL_sI, gL_sR, gL_sA, gL_sL, gL_sF, gL_sQ, gL_sG, gL_sN, gF_sI, gF_sR, gF_sA, gF_sL, gF_sF, gF_sQ, gF_sG, gF_sN, gQ_sI, gQ_sR, gQ_sA, gQ_sL, gQ_sF, gQ_sQ, gQ_sG, gQ_sN, gN_sI, gN_sR, gN_sA, gN_sL, gN_sF, gN_sQ, gN_sG, gN_sN, gS_sI, gS_sR, gS_sA, gS_sL, gS_sF, gS_sQ, gS_sG, gS_sN, gO_sI, gO_sR, gO_sA, gO_sL, gO_sF, gO_sQ, gO_sN, isR_ref, isR_null, isR_rf, isR2_ref, isR2_null, isR2_rf, am_k_int, am_k_ref, am_k_null, am_k_rf, am_k_none, am_k_long, am_k_double, rf_some, rf_none, KT_ret, KT_void, XP_ap, true_and, and_true, Nat.reduceAdd, Nat.reduceEqDiff, reduceIte, if_true, if_false, eq_self, true_or, or_true, forall_const, not_true_eq_false, not_false_eq_true]
      refine ⟨fun hc => ?_, fun hc => ?_⟩
      · rw [if_pos hc] at hP
        exact hQ.ret hP _ _ hF h141 h142 (by omega) hs.2.1 (by omega) hX
      · rw [if_neg hc] at hP
        have hlt1 := hs.2.2 hc
        have hR' : RM D' (3 * (n - (sgn tx n 1 p1).2) + 4) := hR.go hF (by omega)
        refine ⟨hR'.cap (by omega) (by omega), ?_⟩
        have hF1 : FP D' (sN D' (.inr (6, [.int 0, .null, .null])) 3) := FP.refl.new (by omega)
        generalize hD1 : sN D' (.inr (6, [.int 0, .null, .null])) 3 = D1 at hF1
        have hN1 : gN D1 = gN D' + 1 := by rw [← hD1]; rfl
        refine (ih j (by omega)).call (g := 4) hP (by omega) (hF1.tf hT') (by rw [← hD1]; exact h141) (by omega) (by rw [← hD1]; exact h142) hd16 (by omega) (hR'.go hF1 (by rw [hN1]; omega)) (by omega) (fun hr D2 x hF2 hN2 => by rw [KT_thr rfl]; exact hQ.thr hr D2 x (hF.trans (hF1.trans hF2)) (by omega)) ?_
        intro e2 p2 b2 D2 a2 hP2 hF2 h141 h142 _ hp2 hlt2 hN2 hX2 hT2
        simp only [x33_0, x33_1, x33_4, x33_5, x33_6, x33_7, x33_10, x33_12, x33_15, x33_18, x33_18f, x33_19, x33_20, x33_21, x33_22, x33_25, x33_28, x33_29, x33_30, x33_31, x33_34, x33_35, x33_38, x33_39, gI_sI, gI_sR, gI_sA, gI_sL, gI_sF, gI_sQ, gI_sG, gI_sN, gR_sI, gR_sR, gR_sA, gR_sL, gR_sF, gR_sQ, gR_sG, gR_sN, gA_sI, gA_sR, gA_sA, gA_sL, gA_sF, gA_sQ, gA_sG, gA_sN, gL_sI, gL_sR, gL_sA, gL_sL, gL_sF, gL_sQ, gL_sG, gL_sN, gF_sI, gF_sR, gF_sA, gF_sL, gF_sF, gF_sQ, gF_sG, gF_sN, gQ_sI, gQ_sR, gQ_sA, gQ_sL, gQ_sF, gQ_sQ, gQ_sG, gQ_sN, gN_sI, gN_sR, gN_sA, gN_sL, gN_sF, gN_sQ, gN_sG, gN_sN, gS_sI, gS_sR, gS_sA, gS_sL, gS_sF, gS_sQ, gS_sG, gS_sN, gO_sI, gO_sR, gO_sA, gO_sL, gO_sF, gO_sQ, gO_sN, isR_ref, isR_null, isR_rf, isR2_ref, isR2_null, isR2_rf, am_k_int, am_k_ref, am_k_null, am_k_rf, am_k_none, am_k_long, am_k_double, rf_some, rf_none, KT_ret, KT_void, XP_ap, true_and, and_true, Nat.reduceAdd, Nat.reduceEqDiff, reduceIte, if_true, if_false, eq_self, true_or, or_true, forall_const, not_true_eq_false, not_false_eq_true]
        have ho : gO D2 (82 + gN D') = some (.inr (6, [.int 0, .null, .null])) := by rw [hF2.obj (by omega), ← hD1]; exact gO_new
        refine f_oper (by omega) ho ?_
        simp only [x33_0, x33_1, x33_4, x33_5, x33_6, x33_7, x33_10, x33_12, x33_15, x33_18, x33_18f, x33_19, x33_20, x33_21, x33_22, x33_25, x33_28, x33_29, x33_30, x33_31, x33_34, x33_35, x33_38, x33_39, gI_sI, gI_sR, gI_sA, gI_sL, gI_sF, gI_sQ, gI_sG, gI_sN, gR_sI, gR_sR, gR_sA, gR_sL, gR_sF, gR_sQ, gR_sG, gR_sN, gA_sI, gA_sR, gA_sA, gA_sL, gA_sF, gA_sQ, gA_sG, gA_sN, gL_sI, gL_sR, gL_sA, gL_sL, gL_sF, gL_sQ, gL_sG, gL_sN, gF_sI, gF_sR, gF_sA, gF_sL, gF_sF, gF_sQ, gF_sG, gF_sN, gQ_sI, gQ_sR, gQ_sA, gQ_sL, gQ_sF, gQ_sQ, gQ_sG, gQ_sN, gN_sI, gN_sR, gN_sA, gN_sL, gN_sF, gN_sQ, gN_sG, gN_sN, gS_sI, gS_sR, gS_sA, gS_sL, gS_sF, gS_sQ, gS_sG, gS_sN, gO_sI, gO_sR, gO_sA, gO_sL, gO_sF, gO_sQ, gO_sN, isR_ref, isR_null, isR_rf, isR2_ref, isR2_null, isR2_rf, am_k_int, am_k_ref, am_k_null, am_k_rf, am_k_none, am_k_long, am_k_double, rf_some, rf_none, KT_ret, KT_void, XP_ap, true_and, and_true, Nat.reduceAdd, Nat.reduceEqDiff, reduceIte, if_true, if_false, eq_self, true_or, or_true, forall_const, not_true_eq_false, not_false_eq_true]
        have hm := hF.2.2.2.2.2.2.2.1
        have hF3 : FP D (sG D2 (82 + gN D') (.inr (6, [.int (sgn tx n 1 p1).1, .ref a, .ref a2]))) := FP.wr (by omega) (hF.trans (hF1.trans hF2))
        have hE := EX.two (s := nat (sgn tx n 1 p1).1) hX hF1 hN1 hF2 ho hX2 (by omega)
        rw [hsi] at hE
        refine f_sign (k := 1) (hF3.tf hT) (p := p2) h141 (by omega) (by omega) (by omega) ?_
        simp only [x33_0, x33_1, x33_4, x33_5, x33_6, x33_7, x33_10, x33_12, x33_15, x33_18, x33_18f, x33_19, x33_20, x33_21, x33_22, x33_25, x33_28, x33_29, x33_30, x33_31, x33_34, x33_35, x33_38, x33_39, gI_sI, gI_sR, gI_sA, gI_sL, gI_sF, gI_sQ, gI_sG, gI_sN, gR_sI, gR_sR, gR_sA, gR_sL, gR_sF, gR_sQ, gR_sG, gR_sN, gA_sI, gA_sR, gA_sA, gA_sL, gA_sF, gA_sQ, gA_sG, gA_sN, gL_sI, gL_sR, gL_sA, gL_sL, gL_sF, gL_sQ, gL_sG, gL_sN, gF_sI, gF_sR, gF_sA, gF_sL, gF_sF, gF_sQ, gF_sG, gF_sN, gQ_sI, gQ_sR, gQ_sA, gQ_sL, gQ_sF, gQ_sQ, gQ_sG, gQ_sN, gN_sI, gN_sR, gN_sA, gN_sL, gN_sF, gN_sQ, gN_sG, gN_sN, gS_sI, gS_sR, gS_sA, gS_sL, gS_sF, gS_sQ, gS_sG, gS_sN, gO_sI, gO_sR, gO_sA, gO_sL, gO_sF, gO_sQ, gO_sN, isR_ref, isR_null, isR_rf, isR2_ref, isR2_null, isR2_rf, am_k_int, am_k_ref, am_k_null, am_k_rf, am_k_none, am_k_long, am_k_double, rf_some, rf_none, KT_ret, KT_void, XP_ap, true_and, and_true, Nat.reduceAdd, Nat.reduceEqDiff, reduceIte, if_true, if_false, eq_self, true_or, or_true, forall_const, not_true_eq_false, not_false_eq_true]
        refine ij (by omega) _ p2 _ (82 + gN D') hP2 hF3.at_ hp2 rfl h142 (by rw [gN_sI, gN_sG]; omega) ?_
        exact hE
  exact key f (Nat.le_refl _) e p1 _ a hP hF.at_ hp1 rfl h142 (by rw [gN_sI]; omega) hX
/-- 4 chain -/
theorem c_prod (ih : ∀ j, j ≤ f → CT tx n j) (hP : PR tx n (f + 1) 4 p dep bn acc = some r) (hT : TF D tx n) (hp : gI D 141 = i32 p) (hpn : p ≤ n) (hdep : gI D 142 = i32 dep) (hd16 : dep ≤ 16) (hR : RM D (3 * (n - p) + 2)) (hd : 3 * (f + 1) + 4 ≤ d) (hQ : RP Q D n p dep 4 r) : AC d 34 [.ref 25] (toH D) Q := by
  refine AC.pos (k := 3 * f + 6) (by omega) fun d' hd' => ?_
  rw [e34]
  simp only [x34_0, x34_1, x34_4, x34_5, x34_6, x34_7, x34_10, x34_12, x34_15, x34_18, x34_18f, x34_19, x34_20, x34_21, x34_22, x34_25, x34_28, x34_29, x34_30, x34_31, x34_34, x34_35, x34_38, x34_39, gI_sI, gI_sR, gI_sA, gI_sL, gI_sF, gI_sQ, gI_sG, gI_sN, gR_sI, gR_sR, gR_sA, gR_sL, gR_sF, gR_sQ, gR_sG, gR_sN, gA_sI, gA_sR, gA_sA, gA_sL, gA_sF, gA_sQ, gA_sG, gA_sN, gL_sI, gL_sR, gL_sA, gL_sL, gL_sF, gL_sQ, gL_sG, gL_sN, gF_sI, gF_sR, gF_sA, gF_sL, gF_sF, gF_sQ, gF_sG, gF_sN, gQ_sI, gQ_sR, gQ_sA, gQ_sL, gQ_sF, gQ_sQ, gQ_sG, gQ_sN, gN_sI, gN_sR, gN_sA, gN_sL, gN_sF, gN_sQ, gN_sG, gN_sN, gS_sI, gS_sR, gS_sA, gS_sL, gS_sF, gS_sQ, gS_sG, gS_sN, gO_sI, gO_sR, gO_sA, gO_sL, gO_sF, gO_sQ, gO_sN, isR_ref, isR_null, isR_rf, isR2_ref, isR2_null, isR2_rf, am_k_int, am_k_ref, am_k_null, am_k_rf, am_k_none, am_k_long, am_k_double, rf_some, rf_none, KT_ret, KT_void, XP_ap, true_and, and_true, Nat.reduceAdd, Nat.reduceEqDiff, reduceIte, if_true, if_false, eq_self, true_or, or_true, forall_const, not_true_eq_false, not_false_eq_true]
  have hn := hT.2.1
  unfold PR at hP
  refine (ih f (Nat.le_refl _)).call (g := 5) hP (by omega) hT hp hpn hdep hd16 (by omega) hR (by omega) (fun hr D' x hF hN => by rw [KT_thr rfl]; exact hQ.thr hr D' x hF hN) ?_
  intro e p1 b1 D' a hP hF h141 h142 _ hp1 hlt hN hX hT'
  simp only [x34_0, x34_1, x34_4, x34_5, x34_6, x34_7, x34_10, x34_12, x34_15, x34_18, x34_18f, x34_19, x34_20, x34_21, x34_22, x34_25, x34_28, x34_29, x34_30, x34_31, x34_34, x34_35, x34_38, x34_39, gI_sI, gI_sR, gI_sA, gI_sL, gI_sF, gI_sQ, gI_sG, gI_sN, gR_sI, gR_sR, gR_sA, gR_sL, gR_sF, gR_sQ, gR_sG, gR_sN, gA_sI, gA_sR, gA_sA, gA_sL, gA_sF, gA_sQ, gA_sG, gA_sN, gL_sI, gL_sR, gL_sA, gL_sL, gL_sF, gL_sQ, gL_sG, gL_sN, gF_sI, gF_sR, gF_sA, gF_sL, gF_sF, gF_sQ, gF_sG, gF_sN, gQ_sI, gQ_sR, gQ_sA, gQ_sL, gQ_sF, gQ_sQ, gQ_sG, gQ_sN, gN_sI, gN_sR, gN_sA, gN_sL, gN_sF, gN_sQ, gN_sG, gN_sN, gS_sI, gS_sR, gS_sA, gS_sL, gS_sF, gS_sQ, gS_sG, gS_sN, gO_sI, gO_sR, gO_sA, gO_sL, gO_sF, gO_sQ, gO_sN, isR_ref, isR_null, isR_rf, isR2_ref, isR2_null, isR2_rf, am_k_int, am_k_ref, am_k_null, am_k_rf, am_k_none, am_k_long, am_k_double, rf_some, rf_none, KT_ret, KT_void, XP_ap, true_and, and_true, Nat.reduceAdd, Nat.reduceEqDiff, reduceIte, if_true, if_false, eq_self, true_or, or_true, forall_const, not_true_eq_false, not_false_eq_true]
  refine f_sign (k := 2) hT' h141 (by omega) (by omega) (by omega) ?_
  simp only [x34_0, x34_1, x34_4, x34_5, x34_6, x34_7, x34_10, x34_12, x34_15, x34_18, x34_18f, x34_19, x34_20, x34_21, x34_22, x34_25, x34_28, x34_29, x34_30, x34_31, x34_34, x34_35, x34_38, x34_39, gI_sI, gI_sR, gI_sA, gI_sL, gI_sF, gI_sQ, gI_sG, gI_sN, gR_sI, gR_sR, gR_sA, gR_sL, gR_sF, gR_sQ, gR_sG, gR_sN, gA_sI, gA_sR, gA_sA, gA_sL, gA_sF, gA_sQ, gA_sG, gA_sN, gL_sI, gL_sR, gL_sA, gL_sL, gL_sF, gL_sQ, gL_sG, gL_sN, gF_sI, gF_sR, gF_sA, gF_sL, gF_sF, gF_sQ, gF_sG, gF_sN, gQ_sI, gQ_sR, gQ_sA, gQ_sL, gQ_sF, gQ_sQ, gQ_sG, gQ_sN, gN_sI, gN_sR, gN_sA, gN_sL, gN_sF, gN_sQ, gN_sG, gN_sN, gS_sI, gS_sR, gS_sA, gS_sL, gS_sF, gS_sQ, gS_sG, gS_sN, gO_sI, gO_sR, gO_sA, gO_sL, gO_sF, gO_sQ, gO_sN, isR_ref, isR_null, isR_rf, isR2_ref, isR2_null, isR2_rf, am_k_int, am_k_ref, am_k_null, am_k_rf, am_k_none, am_k_long, am_k_double, rf_some, rf_none, KT_ret, KT_void, XP_ap, true_and, and_true, Nat.reduceAdd, Nat.reduceEqDiff, reduceIte, if_true, if_false, eq_self, true_or, or_true, forall_const, not_true_eq_false, not_false_eq_true]
  have key : ∀ j, j ≤ f → ∀ (acc : tE) (p1 : Nat) (D' : sS) (a : Nat), PR tx n j 14 p1 dep 0 acc = some r → FP D D' → p1 ≤ n → gI D' 141 = i32 (sgn tx n 2 p1).2 → gI D' 142 = i32 dep → gN D' + 3 * p + 1 ≤ gN D + 3 * p1 → EX (gO D') (82 + gN D) (82 + gN D') acc none a → XW 34 d' Q 11 [some (.ref 25), some (.ref a), some (.int (sgn tx n 2 p1).1)] [] (toH D') := by
    intro j
    induction j with
    | zero => intro _ acc p1 D' a h; cases h
    | succ j ij =>
      intro hj acc p1 D' a hP hF hp1 h141 h142 hN hX
      have hT' := hF.tf hT
      have hs := sgn_le (tx := tx) (k := 2) hp1
      have hsi := sgn_i (tx := tx) (n := n) (k := 2) (p := p1)
      unfold PR at hP
      rw [x34_11]
      simp only [x34_0, x34_1, x34_4, x34_5, x34_6, x34_7, x34_10, x34_12, x34_15, x34_18, x34_18f, x34_19, x34_20, x34_21, x34_22, x34_25, x34_28, x34_29, x34_30, x34_31, x34_34, x34_35, x34_38, x34_39, gI_sI, gI_sR, gI_sA, gI_sL, gI_sF, gI_sQ, gI_sG, gI_sN, gR_sI, gR_sR, gR_sA, gR_sL, gR_sF, gR_sQ, gR_sG, gR_sN, gA_sI, gA_sR, gA_sA, gA_sL, gA_sF, gA_sQ, gA_sG, gA_sN, gL_sI, gL_sR, gL_sA, gL_sL, gL_sF, gL_sQ, gL_sG, gL_sN, gF_sI, gF_sR, gF_sA, gF_sL, gF_sF, gF_sQ, gF_sG, gF_sN, gQ_sI, gQ_sR, gQ_sA, gQ_sL, gQ_sF, gQ_sQ, gQ_sG, gQ_sN, gN_sI, gN_sR, gN_sA, gN_sL, gN_sF, gN_sQ, gN_sG, gN_sN, gS_sI, gS_sR, gS_sA, gS_sL, gS_sF, gS_sQ, gS_sG, gS_sN, gO_sI, gO_sR, gO_sA, gO_sL, gO_sF, gO_sQ, gO_sN, isR_ref, isR_null, isR_rf, isR2_ref, isR2_null, isR2_rf, am_k_int, am_k_ref, am_k_null, am_k_rf, am_k_none, am_k_long, am_k_double, rf_some, rf_none, KT_ret, KT_void, XP_ap, true_and, and_true, Nat.reduceAdd, Nat.reduceEqDiff, reduceIte, if_true, if_false, eq_self, true_or, or_true, forall_const, not_true_eq_false, not_false_eq_true]
      refine ⟨fun hc => ?_, fun hc => ?_⟩
      · rw [if_pos hc] at hP
        exact hQ.ret hP _ _ hF h141 h142 (by omega) hs.2.1 (by omega) hX
      · rw [if_neg hc] at hP
        have hlt1 := hs.2.2 hc
        have hR' : RM D' (3 * (n - (sgn tx n 2 p1).2) + 4) := hR.go hF (by omega)
        refine ⟨hR'.cap (by omega) (by omega), ?_⟩
        have hF1 : FP D' (sN D' (.inr (6, [.int 0, .null, .null])) 3) := FP.refl.new (by omega)
        generalize hD1 : sN D' (.inr (6, [.int 0, .null, .null])) 3 = D1 at hF1
        have hN1 : gN D1 = gN D' + 1 := by rw [← hD1]; rfl
        refine (ih j (by omega)).call (g := 5) hP (by omega) (hF1.tf hT') (by rw [← hD1]; exact h141) (by omega) (by rw [← hD1]; exact h142) hd16 (by omega) (hR'.go hF1 (by rw [hN1]; omega)) (by omega) (fun hr D2 x hF2 hN2 => by rw [KT_thr rfl]; exact hQ.thr hr D2 x (hF.trans (hF1.trans hF2)) (by omega)) ?_
        intro e2 p2 b2 D2 a2 hP2 hF2 h141 h142 _ hp2 hlt2 hN2 hX2 hT2
        simp only [x34_0, x34_1, x34_4, x34_5, x34_6, x34_7, x34_10, x34_12, x34_15, x34_18, x34_18f, x34_19, x34_20, x34_21, x34_22, x34_25, x34_28, x34_29, x34_30, x34_31, x34_34, x34_35, x34_38, x34_39, gI_sI, gI_sR, gI_sA, gI_sL, gI_sF, gI_sQ, gI_sG, gI_sN, gR_sI, gR_sR, gR_sA, gR_sL, gR_sF, gR_sQ, gR_sG, gR_sN, gA_sI, gA_sR, gA_sA, gA_sL, gA_sF, gA_sQ, gA_sG, gA_sN, gL_sI, gL_sR, gL_sA, gL_sL, gL_sF, gL_sQ, gL_sG, gL_sN, gF_sI, gF_sR, gF_sA, gF_sL, gF_sF, gF_sQ, gF_sG, gF_sN, gQ_sI, gQ_sR, gQ_sA, gQ_sL, gQ_sF, gQ_sQ, gQ_sG, gQ_sN, gN_sI, gN_sR, gN_sA, gN_sL, gN_sF, gN_sQ, gN_sG, gN_sN, gS_sI, gS_sR, gS_sA, gS_sL, gS_sF, gS_sQ, gS_sG, gS_sN, gO_sI, gO_sR, gO_sA, gO_sL, gO_sF, gO_sQ, gO_sN, isR_ref, isR_null, isR_rf, isR2_ref, isR2_null, isR2_rf, am_k_int, am_k_ref, am_k_null, am_k_rf, am_k_none, am_k_long, am_k_double, rf_some, rf_none, KT_ret, KT_void, XP_ap, true_and, and_true, Nat.reduceAdd, Nat.reduceEqDiff, reduceIte, if_true, if_false, eq_self, true_or, or_true, forall_const, not_true_eq_false, not_false_eq_true]
        have ho : gO D2 (82 + gN D') = some (.inr (6, [.int 0, .null, .null])) := by rw [hF2.obj (by omega), ← hD1]; exact gO_new
        refine f_oper (by omega) ho ?_
        simp only [x34_0, x34_1, x34_4, x34_5, x34_6, x34_7, x34_10, x34_12, x34_15, x34_18, x34_18f, x34_19, x34_20, x34_21, x34_22, x34_25, x34_28, x34_29, x34_30, x34_31, x34_34, x34_35, x34_38, x34_39, gI_sI, gI_sR, gI_sA, gI_sL, gI_sF, gI_sQ, gI_sG, gI_sN, gR_sI, gR_sR, gR_sA, gR_sL, gR_sF, gR_sQ, gR_sG, gR_sN, gA_sI, gA_sR, gA_sA, gA_sL, gA_sF, gA_sQ, gA_sG, gA_sN, gL_sI, gL_sR, gL_sA, gL_sL, gL_sF, gL_sQ, gL_sG, gL_sN, gF_sI, gF_sR, gF_sA, gF_sL, gF_sF, gF_sQ, gF_sG, gF_sN, gQ_sI, gQ_sR, gQ_sA, gQ_sL, gQ_sF, gQ_sQ, gQ_sG, gQ_sN, gN_sI, gN_sR, gN_sA, gN_sL, gN_sF, gN_sQ, gN_sG, gN_sN, gS_sI, gS_sR, gS_sA, gS_sL, gS_sF, gS_sQ, gS_sG, gS_sN, gO_sI, gO_sR, gO_sA, gO_sL, gO_sF, gO_sQ, gO_sN, isR_ref, isR_null, isR_rf, isR2_ref, isR2_null, isR2_rf, am_k_int, am_k_ref, am_k_null, am_k_rf, am_k_none, am_k_long, am_k_double, rf_some, rf_none, KT_ret, KT_void, XP_ap, true_and, and_true, Nat.reduceAdd, Nat.reduceEqDiff, reduceIte, if_true, if_false, eq_self, true_or, or_true, forall_const, not_true_eq_false, not_false_eq_true]
        have hm := hF.2.2.2.2.2.2.2.1
        have hF3 : FP D (sG D2 (82 + gN D') (.inr (6, [.int (sgn tx n 2 p1).1, .ref a, .ref a2]))) := FP.wr (by omega) (hF.trans (hF1.trans hF2))
        have hE := EX.two (s := nat (sgn tx n 2 p1).1) hX hF1 hN1 hF2 ho hX2 (by omega)
        rw [hsi] at hE
        refine f_sign (k := 2) (hF3.tf hT) (p := p2) h141 (by omega) (by omega) (by omega) ?_
        simp only [x34_0, x34_1, x34_4, x34_5, x34_6, x34_7, x34_10, x34_12, x34_15, x34_18, x34_18f, x34_19, x34_20, x34_21, x34_22, x34_25, x34_28, x34_29, x34_30, x34_31, x34_34, x34_35, x34_38, x34_39, gI_sI, gI_sR, gI_sA, gI_sL, gI_sF, gI_sQ, gI_sG, gI_sN, gR_sI, gR_sR, gR_sA, gR_sL, gR_sF, gR_sQ, gR_sG, gR_sN, gA_sI, gA_sR, gA_sA, gA_sL, gA_sF, gA_sQ, gA_sG, gA_sN, gL_sI, gL_sR, gL_sA, gL_sL, gL_sF, gL_sQ, gL_sG, gL_sN, gF_sI, gF_sR, gF_sA, gF_sL, gF_sF, gF_sQ, gF_sG, gF_sN, gQ_sI, gQ_sR, gQ_sA, gQ_sL, gQ_sF, gQ_sQ, gQ_sG, gQ_sN, gN_sI, gN_sR, gN_sA, gN_sL, gN_sF, gN_sQ, gN_sG, gN_sN, gS_sI, gS_sR, gS_sA, gS_sL, gS_sF, gS_sQ, gS_sG, gS_sN, gO_sI, gO_sR, gO_sA, gO_sL, gO_sF, gO_sQ, gO_sN, isR_ref, isR_null, isR_rf, isR2_ref, isR2_null, isR2_rf, am_k_int, am_k_ref, am_k_null, am_k_rf, am_k_none, am_k_long, am_k_double, rf_some, rf_none, KT_ret, KT_void, XP_ap, true_and, and_true, Nat.reduceAdd, Nat.reduceEqDiff, reduceIte, if_true, if_false, eq_self, true_or, or_true, forall_const, not_true_eq_false, not_false_eq_true]
        refine ij (by omega) _ p2 _ (82 + gN D') hP2 hF3.at_ hp2 rfl h142 (by rw [gN_sI, gN_sG]; omega) ?_
        exact hE
  exact key f (Nat.le_refl _) e p1 _ a hP hF.at_ hp1 rfl h142 (by rw [gN_sI]; omega) hX
end RE
