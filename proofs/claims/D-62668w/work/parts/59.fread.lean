/-! FunDesk, reading: applied functions, figures, atoms -/
set_option maxRecDepth 100000
section RF
variable {d : Nat} {D : sS} {Q : am_O → am_H → Prop} {tx : Nat → Int32} {n p dep f : Nat} {bn : Int32} {acc : tE} {r : Option (tE × Nat × Int32)}
theorem EX.app {D D1 D2 : sS} {A a b : Nat} {e e' : tE} {y : am_C} (h1 : EX (gO D) A (82 + gN D) e none a) (hF : FP D D1) (hN : gN D1 = gN D + 1) (hF2 : FP D1 D2) (ho : gO D2 (82 + gN D) = some y) (h2 : EX (gO D2) (82 + gN D1) (82 + gN D2) e' none b) (hA : A ≤ 82 + gN D) : EX (gO (sG D2 (82 + gN D) (.inr (8, [.ref a, .ref b])))) A (82 + gN D2) (eApp e e') none (82 + gN D) := by
  have hm := hF2.2.2.2.2.2.2.2.1
  unfold eApp EX
  refine ⟨hA, by omega, a, b, by rw [gO_sG ho, if_pos rfl], ?_, ?_⟩
  · refine EX.mono (fun b h1 h2 => ?_) (Nat.le_refl _) (by omega) _ _ _ h1
    rw [gO_sG ho, if_neg (by omega), (hF.trans hF2).obj h2]
  · refine EX.mono (fun b h1 h2 => ?_) (by omega) (by omega) _ _ _ h2
    rw [gO_sG ho, if_neg (by omega)]
theorem c_appl (ih : ∀ j, j ≤ f → CT tx n j) (hP : PR tx n (f + 1) 5 p dep bn acc = some r) (hT : TF D tx n) (hp : gI D 141 = i32 p) (hpn : p ≤ n) (hdep : gI D 142 = i32 dep) (hd16 : dep ≤ 16) (hR : RM D (3 * (n - p) + 2)) (hd : 3 * (f + 1) + 4 ≤ d) (hQ : RP Q D n p dep 5 r) : AC d 35 [.ref 25] (toH D) Q := by
  refine AC.pos (k := 3 * f + 6) (by omega) fun d' hd' => ?_
  rw [e35]
  simp only [x35_0, x35_1, x35_4, x35_6, x35_7, x35_10, x35_13, x35_16, x35_19, x35_19f, x35_20, x35_21, x35_22, x35_25, x35_28, x35_29, x35_32, x35_33, gI_sI, gI_sR, gI_sA, gI_sL, gI_sF, gI_sQ, gI_sG, gI_sN, gR_sI, gR_sR, gR_sA, gR_sL, gR_sF, gR_sQ, gR_sG, gR_sN, gA_sI, gA_sR, gA_sA, gA_sL, gA_sF, gA_sQ, gA_sG, gA_sN, gL_sI, gL_sR, gL_sA, gL_sL, gL_sF, gL_sQ, gL_sG, gL_sN, gF_sI, gF_sR, gF_sA, gF_sL, gF_sF, gF_sQ, gF_sG, gF_sN, gQ_sI, gQ_sR, gQ_sA, gQ_sL, gQ_sF, gQ_sQ, gQ_sG, gQ_sN, gN_sI, gN_sR, gN_sA, gN_sL, gN_sF, gN_sQ, gN_sG, gN_sN, gS_sI, gS_sR, gS_sA, gS_sL, gS_sF, gS_sQ, gS_sG, gS_sN, gO_sI, gO_sR, gO_sA, gO_sL, gO_sF, gO_sQ, gO_sN, isR_ref, isR_null, isR_rf, isR2_ref, isR2_null, isR2_rf, am_k_int, am_k_ref, am_k_null, am_k_rf, am_k_none, am_k_long, am_k_double, rf_some, rf_none, KT_ret, KT_void, XP_ap, true_and, and_true, Nat.reduceAdd, Nat.reduceEqDiff, reduceIte, if_true, if_false, eq_self, true_or, or_true, forall_const, not_true_eq_false, not_false_eq_true]
  have hn := hT.2.1
  unfold PR at hP
  refine (ih f (Nat.le_refl _)).call (g := 6) hP (by omega) hT hp hpn hdep hd16 (by omega) hR (by omega) (fun hr D' x hF hN => by rw [KT_thr rfl]; exact hQ.thr hr D' x hF hN) ?_
  intro e p1 b1 D' a hP hF h141 h142 _ hp1 hlt hN hX hT'
  simp only [x35_0, x35_1, x35_4, x35_6, x35_7, x35_10, x35_13, x35_16, x35_19, x35_19f, x35_20, x35_21, x35_22, x35_25, x35_28, x35_29, x35_32, x35_33, gI_sI, gI_sR, gI_sA, gI_sL, gI_sF, gI_sQ, gI_sG, gI_sN, gR_sI, gR_sR, gR_sA, gR_sL, gR_sF, gR_sQ, gR_sG, gR_sN, gA_sI, gA_sR, gA_sA, gA_sL, gA_sF, gA_sQ, gA_sG, gA_sN, gL_sI, gL_sR, gL_sA, gL_sL, gL_sF, gL_sQ, gL_sG, gL_sN, gF_sI, gF_sR, gF_sA, gF_sL, gF_sF, gF_sQ, gF_sG, gF_sN, gQ_sI, gQ_sR, gQ_sA, gQ_sL, gQ_sF, gQ_sQ, gQ_sG, gQ_sN, gN_sI, gN_sR, gN_sA, gN_sL, gN_sF, gN_sQ, gN_sG, gN_sN, gS_sI, gS_sR, gS_sA, gS_sL, gS_sF, gS_sQ, gS_sG, gS_sN, gO_sI, gO_sR, gO_sA, gO_sL, gO_sF, gO_sQ, gO_sN, isR_ref, isR_null, isR_rf, isR2_ref, isR2_null, isR2_rf, am_k_int, am_k_ref, am_k_null, am_k_rf, am_k_none, am_k_long, am_k_double, rf_some, rf_none, KT_ret, KT_void, XP_ap, true_and, and_true, Nat.reduceAdd, Nat.reduceEqDiff, reduceIte, if_true, if_false, eq_self, true_or, or_true, forall_const, not_true_eq_false, not_false_eq_true]
  have key : ∀ j, j ≤ f → ∀ (acc : tE) (p1 : Nat) (D' : sS) (a : Nat), PR tx n j 15 p1 dep 0 acc = some r → FP D D' → p1 ≤ n → gI D' 141 = i32 p1 → gI D' 142 = i32 dep → gN D' + 3 * p + 1 ≤ gN D + 3 * p1 → EX (gO D') (82 + gN D) (82 + gN D') acc none a → XW 35 d' Q 5 [some (.ref 25), some (.ref a)] [] (toH D') := by
    intro j
    induction j with
    | zero => intro _ acc p1 D' a h; cases h
    | succ j ij =>
      intro hj acc p1 D' a hP hF hp1 h141 h142 hN hX
      have hT' := hF.tf hT
      have hs := sk_lt (tx := tx) hp1
      have hs2 := sk_le (tx := tx) (n := n) (p := p1)
      unfold PR at hP
      rw [x35_5, x35_6, x35_7]
      refine f_peek hT' h141 (by omega) (by omega) ?_
      simp only [x35_0, x35_1, x35_4, x35_6, x35_7, x35_10, x35_13, x35_16, x35_19, x35_19f, x35_20, x35_21, x35_22, x35_25, x35_28, x35_29, x35_32, x35_33, gI_sI, gI_sR, gI_sA, gI_sL, gI_sF, gI_sQ, gI_sG, gI_sN, gR_sI, gR_sR, gR_sA, gR_sL, gR_sF, gR_sQ, gR_sG, gR_sN, gA_sI, gA_sR, gA_sA, gA_sL, gA_sF, gA_sQ, gA_sG, gA_sN, gL_sI, gL_sR, gL_sA, gL_sL, gL_sF, gL_sQ, gL_sG, gL_sN, gF_sI, gF_sR, gF_sA, gF_sL, gF_sF, gF_sQ, gF_sG, gF_sN, gQ_sI, gQ_sR, gQ_sA, gQ_sL, gQ_sF, gQ_sQ, gQ_sG, gQ_sN, gN_sI, gN_sR, gN_sA, gN_sL, gN_sF, gN_sQ, gN_sG, gN_sN, gS_sI, gS_sR, gS_sA, gS_sL, gS_sF, gS_sQ, gS_sG, gS_sN, gO_sI, gO_sR, gO_sA, gO_sL, gO_sF, gO_sQ, gO_sN, isR_ref, isR_null, isR_rf, isR2_ref, isR2_null, isR2_rf, am_k_int, am_k_ref, am_k_null, am_k_rf, am_k_none, am_k_long, am_k_double, rf_some, rf_none, KT_ret, KT_void, XP_ap, true_and, and_true, Nat.reduceAdd, Nat.reduceEqDiff, reduceIte, if_true, if_false, eq_self, true_or, or_true, forall_const, not_true_eq_false, not_false_eq_true]
      refine f_begins (by omega) ?_
      simp only [x35_0, x35_1, x35_4, x35_6, x35_7, x35_10, x35_13, x35_16, x35_19, x35_19f, x35_20, x35_21, x35_22, x35_25, x35_28, x35_29, x35_32, x35_33, gI_sI, gI_sR, gI_sA, gI_sL, gI_sF, gI_sQ, gI_sG, gI_sN, gR_sI, gR_sR, gR_sA, gR_sL, gR_sF, gR_sQ, gR_sG, gR_sN, gA_sI, gA_sR, gA_sA, gA_sL, gA_sF, gA_sQ, gA_sG, gA_sN, gL_sI, gL_sR, gL_sA, gL_sL, gL_sF, gL_sQ, gL_sG, gL_sN, gF_sI, gF_sR, gF_sA, gF_sL, gF_sF, gF_sQ, gF_sG, gF_sN, gQ_sI, gQ_sR, gQ_sA, gQ_sL, gQ_sF, gQ_sQ, gQ_sG, gQ_sN, gN_sI, gN_sR, gN_sA, gN_sL, gN_sF, gN_sQ, gN_sG, gN_sN, gS_sI, gS_sR, gS_sA, gS_sL, gS_sF, gS_sQ, gS_sG, gS_sN, gO_sI, gO_sR, gO_sA, gO_sL, gO_sF, gO_sQ, gO_sN, isR_ref, isR_null, isR_rf, isR2_ref, isR2_null, isR2_rf, am_k_int, am_k_ref, am_k_null, am_k_rf, am_k_none, am_k_long, am_k_double, rf_some, rf_none, KT_ret, KT_void, XP_ap, true_and, and_true, Nat.reduceAdd, Nat.reduceEqDiff, reduceIte, if_true, if_false, eq_self, true_or, or_true, forall_const, not_true_eq_false, not_false_eq_true, bi_ne, Bool.not_eq_false]
      refine ⟨fun hc => ?_, fun hc => ?_⟩
      · rw [hc] at hP
        exact hQ.ret hP _ _ hF.at_ rfl h142 (by omega) hs (by rw [gN_sI]; omega) hX
      · rw [if_pos hc] at hP
        have hlt1 := bg_lt hc
        have hR' : RM (sI D' 141 (i32 (sk tx n p1))) (3 * (n - sk tx n p1) + 3) := hR.go hF.at_ (by rw [gN_sI]; omega)
        refine ⟨hR'.cap (by omega) (by omega), ?_⟩
        have hF1 : FP D' (sN (sI D' 141 (i32 (sk tx n p1))) (.inr (8, [.null, .null])) 2) := FP.refl.at_.new (by omega)
        generalize hD1 : sN (sI D' 141 (i32 (sk tx n p1))) (.inr (8, [.null, .null])) 2 = D1 at hF1
        have hN1 : gN D1 = gN D' + 1 := by rw [← hD1]; rfl
        refine (ih j (by omega)).call (g := 6) hP (by omega) (hF1.tf hT') (by rw [← hD1]; rfl) (by omega) (by rw [← hD1]; exact h142) hd16 (by omega) (hR'.go (D' := D1) (by rw [← hD1]; exact FP.refl.new (by omega)) (by rw [hN1, gN_sI]; omega)) (by omega) (fun hr D2 x hF2 hN2 => by rw [KT_thr rfl]; exact hQ.thr hr D2 x (hF.trans (hF1.trans hF2)) (by omega)) ?_
        intro e2 p2 b2 D2 a2 hP2 hF2 h141 h142 _ hp2 hlt2 hN2 hX2 hT2
        simp only [x35_0, x35_1, x35_4, x35_6, x35_7, x35_10, x35_13, x35_16, x35_19, x35_19f, x35_20, x35_21, x35_22, x35_25, x35_28, x35_29, x35_32, x35_33, gI_sI, gI_sR, gI_sA, gI_sL, gI_sF, gI_sQ, gI_sG, gI_sN, gR_sI, gR_sR, gR_sA, gR_sL, gR_sF, gR_sQ, gR_sG, gR_sN, gA_sI, gA_sR, gA_sA, gA_sL, gA_sF, gA_sQ, gA_sG, gA_sN, gL_sI, gL_sR, gL_sA, gL_sL, gL_sF, gL_sQ, gL_sG, gL_sN, gF_sI, gF_sR, gF_sA, gF_sL, gF_sF, gF_sQ, gF_sG, gF_sN, gQ_sI, gQ_sR, gQ_sA, gQ_sL, gQ_sF, gQ_sQ, gQ_sG, gQ_sN, gN_sI, gN_sR, gN_sA, gN_sL, gN_sF, gN_sQ, gN_sG, gN_sN, gS_sI, gS_sR, gS_sA, gS_sL, gS_sF, gS_sQ, gS_sG, gS_sN, gO_sI, gO_sR, gO_sA, gO_sL, gO_sF, gO_sQ, gO_sN, isR_ref, isR_null, isR_rf, isR2_ref, isR2_null, isR2_rf, am_k_int, am_k_ref, am_k_null, am_k_rf, am_k_none, am_k_long, am_k_double, rf_some, rf_none, KT_ret, KT_void, XP_ap, true_and, and_true, Nat.reduceAdd, Nat.reduceEqDiff, reduceIte, if_true, if_false, eq_self, true_or, or_true, forall_const, not_true_eq_false, not_false_eq_true]
        have ho : gO D2 (82 + gN D') = some (.inr (8, [.null, .null])) := by rw [hF2.obj (by omega), ← hD1]; exact gO_new
        refine f_appl (by omega) ho ?_
        simp only [x35_0, x35_1, x35_4, x35_6, x35_7, x35_10, x35_13, x35_16, x35_19, x35_19f, x35_20, x35_21, x35_22, x35_25, x35_28, x35_29, x35_32, x35_33, gI_sI, gI_sR, gI_sA, gI_sL, gI_sF, gI_sQ, gI_sG, gI_sN, gR_sI, gR_sR, gR_sA, gR_sL, gR_sF, gR_sQ, gR_sG, gR_sN, gA_sI, gA_sR, gA_sA, gA_sL, gA_sF, gA_sQ, gA_sG, gA_sN, gL_sI, gL_sR, gL_sA, gL_sL, gL_sF, gL_sQ, gL_sG, gL_sN, gF_sI, gF_sR, gF_sA, gF_sL, gF_sF, gF_sQ, gF_sG, gF_sN, gQ_sI, gQ_sR, gQ_sA, gQ_sL, gQ_sF, gQ_sQ, gQ_sG, gQ_sN, gN_sI, gN_sR, gN_sA, gN_sL, gN_sF, gN_sQ, gN_sG, gN_sN, gS_sI, gS_sR, gS_sA, gS_sL, gS_sF, gS_sQ, gS_sG, gS_sN, gO_sI, gO_sR, gO_sA, gO_sL, gO_sF, gO_sQ, gO_sN, isR_ref, isR_null, isR_rf, isR2_ref, isR2_null, isR2_rf, am_k_int, am_k_ref, am_k_null, am_k_rf, am_k_none, am_k_long, am_k_double, rf_some, rf_none, KT_ret, KT_void, XP_ap, true_and, and_true, Nat.reduceAdd, Nat.reduceEqDiff, reduceIte, if_true, if_false, eq_self, true_or, or_true, forall_const, not_true_eq_false, not_false_eq_true]
        have hm := hF.2.2.2.2.2.2.2.1
        refine ij (by omega) _ p2 _ (82 + gN D') hP2 (FP.wr (by omega) (hF.trans (hF1.trans hF2))) hp2 h141 h142 (by rw [gN_sG]; omega) ?_
        exact EX.app hX hF1 hN1 hF2 ho hX2 (by omega)
  exact key f (Nat.le_refl _) e p1 _ a hP hF hp1 h141 h142 (by omega) hX
/-- a new node without parts -/
theorem EX.leaf {D : sS} {k v op : Nat} (y : am_C) : EX (gO (sG (sN D y k) (82 + gN D) (.inr (5, [.ref (6 + op), .int (i32 v), .ref (op + 1)])))) (82 + gN D) (82 + (gN D + 1)) (ePlain op v) none (82 + gN D) := by
  unfold ePlain EX
  exact ⟨by omega, by omega, by rw [gO_sG gO_new, if_pos rfl]⟩
theorem i32_mul {a b : Nat} : i32 a * i32 b = i32 (a * b) := (Int32.ofNat_mul a b).symm
theorem dg_i {c : Int32} (h : dg c = true) : ∃ m : Nat, m ≤ 9 ∧ c = i32 (48 + m) := by
  unfold dg at h
  simp only [Bool.and_eq_true, Bool.not_eq_true', decide_eq_false_iff_not, Int32.not_lt] at h
  obtain ⟨h1, h2⟩ := h
  rw [Int32.le_iff_toInt_le] at h1 h2
  have e1 : (48 : Int32).toInt = 48 := rfl
  have e2 : (57 : Int32).toInt = 57 := rfl
  refine ⟨(c.toInt - 48).toNat, by omega, ?_⟩
  rw [← Int32.toInt_inj, i32_toInt (by omega)]
  omega
theorem dgF_i {k : Nat} (hk : k ≤ 8) : ∀ (f p j m : Nat) (v' : Int32) (j' p' : Nat), m < 10 ^ j → j ≤ k + 1 → dgF tx n k f p (i32 m) j = (v', j', p') → j' ≤ k + 1 ∧ p' + j = p + j' ∧ ∃ m', v' = i32 m' ∧ m' < 10 ^ j' := by
  intro f
  induction f with
  | zero =>
    intro p j m v' j' p' hm hj h
    unfold dgF at h
    simp only [Prod.mk.injEq] at h
    obtain ⟨rfl, rfl, rfl⟩ := h
    exact ⟨hj, rfl, m, rfl, hm⟩
  | succ f ih =>
    intro p j m v' j' p' hm hj h
    unfold dgF at h
    split at h
    · rename_i hc
      obtain ⟨x, hx, e⟩ := dg_i hc.1
      have hm9 : m < 10 ^ 9 := Nat.lt_of_lt_of_le hm (Nat.pow_le_pow_right (by decide) (by omega))
      have e9 : 10 * i32 m + hr tx n p - 48 = i32 (10 * m + x) := by
        rw [e]
        have a1 : (10 : Int32) * i32 m = i32 (10 * m) := i32_mul (a := 10) (b := m)
        rw [a1, i32_add]
        have a2 : (48 : Int32) = i32 48 := rfl
        rw [a2]
        have a3 : i32 (10 * m + (48 + x)) = i32 (10 * m + x) + i32 48 := by rw [i32_add]; congr 1; omega
        rw [a3, Int32.add_sub_cancel]
      rw [e9] at h
      obtain ⟨b1, b2, b3⟩ := ih (p + 1) (j + 1) (10 * m + x) v' j' p' (by rw [Nat.pow_succ]; omega) (by omega) h
      exact ⟨b1, by omega, b3⟩
    · simp only [Prod.mk.injEq] at h
      obtain ⟨rfl, rfl, rfl⟩ := h
      exact ⟨hj, rfl, m, rfl, hm⟩
theorem dgs_i {k p' : Nat} {v : Int32} (hk : k ≤ 8) (h : dgs tx n k p = some (v, p')) : p < p' ∧ p' ≤ p + k ∧ ∃ m, v = i32 m ∧ m < 10 ^ (p' - p) := by
  unfold dgs at h
  cases e : dgF tx n k (k + 2) p 0 0 with
  | mk v' q =>
    obtain ⟨j', p''⟩ := q
    rw [e] at h
    dsimp only at h
    obtain ⟨b1, b2, b3⟩ := dgF_i hk (k + 2) p 0 0 v' j' p'' (by decide) (by omega) e
    split at h
    · cases h
    · simp only [Option.some.injEq, Prod.mk.injEq] at h
      obtain ⟨rfl, rfl⟩ := h
      have e2 : p'' - p = j' := by omega
      rw [e2]
      exact ⟨by omega, by omega, b3⟩
/-- figures: a number or a real -/
theorem c_figs (hT : TF D tx n) (hp : gI D 141 = i32 p) (hpn : p ≤ n) (hdep : gI D 142 = i32 dep) (hR : RM D (3 * (n - p) + 2)) (hd : 6 ≤ d) (hdg : dg (hr tx n p) = true) (hP : (match dgs tx n 4 p with
          | none => rno
          | some (v, p1) => if hr tx n p1 = 46 then (match dgs tx n 3 (p1 + 1) with
            | none => rno
            | some (w, p2) => rok (ePlain 2 (1000 * nat v + nat w * 10 ^ (3 - (p2 - (p1 + 1))))) p2 0) else rok (ePlain 0 (nat v)) p1 0) = some r) (hQ : RP Q D n p dep 6 r) : AC d 40 [.ref 25] (toH D) Q := by
  refine AC.pos (k := 5) (by omega) fun d' hd' => ?_
  rw [e40]
  simp only [x40_0, x40_1, x40_2, x40_5, x40_6, x40_7, x40_10, x40_12, x40_15, x40_18, x40_18f, x40_19, x40_22, x40_23, x40_26, x40_29, x40_30, x40_31, x40_32, x40_35, x40_36, x40_37, x40_40, x40_41, x40_44, x40_45, x40_46, x40_47, x40_50, x40_51, x40_52, x40_55, x40_56, x40_57, x40_61, x40_62, x40_65, x40_66, x40_68, x40_69, x40_70, x40_73, x40_76, x40_79, x40_79f, x40_80, x40_83, x40_86, x40_87, x40_88, x40_89, x40_90, x40_93, x40_96, gI_sI, gI_sR, gI_sA, gI_sL, gI_sF, gI_sQ, gI_sG, gI_sN, gR_sI, gR_sR, gR_sA, gR_sL, gR_sF, gR_sQ, gR_sG, gR_sN, gA_sI, gA_sR, gA_sA, gA_sL, gA_sF, gA_sQ, gA_sG, gA_sN, gL_sI, gL_sR, gL_sA, gL_sL, gL_sF, gL_sQ, gL_sG, gL_sN, gF_sI, gF_sR, gF_sA, gF_sL, gF_sF, gF_sQ, gF_sG, gF_sN, gQ_sI, gQ_sR, gQ_sA, gQ_sL, gQ_sF, gQ_sQ, gQ_sG, gQ_sN, gN_sI, gN_sR, gN_sA, gN_sL, gN_sF, gN_sQ, gN_sG, gN_sN, gS_sI, gS_sR, gS_sA, gS_sL, gS_sF, gS_sQ, gS_sG, gS_sN, gO_sI, gO_sR, gO_sA, gO_sL, gO_sF, gO_sQ, gO_sN, isR_ref, isR_null, isR_rf, isR2_ref, isR2_null, isR2_rf, am_k_int, am_k_ref, am_k_null, am_k_rf, am_k_none, am_k_long, am_k_double, rf_some, rf_none, KT_ret, KT_void, XP_ap, true_and, and_true, Nat.reduceAdd, Nat.reduceEqDiff, reduceIte, if_true, if_false, eq_self, true_or, or_true, forall_const, not_true_eq_false, not_false_eq_true]
  have hn := hT.2.1
  refine f_digits (k := 4) hT hp hpn (by omega) (hR.cap (by omega) (by omega)) (by omega) ?_ ?_
  · intro v p1 hv hlt hp1
    rw [hv] at hP
    simp only [x40_0, x40_1, x40_2, x40_5, x40_6, x40_7, x40_10, x40_12, x40_15, x40_18, x40_18f, x40_19, x40_22, x40_23, x40_26, x40_29, x40_30, x40_31, x40_32, x40_35, x40_36, x40_37, x40_40, x40_41, x40_44, x40_45, x40_46, x40_47, x40_50, x40_51, x40_52, x40_55, x40_56, x40_57, x40_61, x40_62, x40_65, x40_66, x40_68, x40_69, x40_70, x40_73, x40_76, x40_79, x40_79f, x40_80, x40_83, x40_86, x40_87, x40_88, x40_89, x40_90, x40_93, x40_96, gI_sI, gI_sR, gI_sA, gI_sL, gI_sF, gI_sQ, gI_sG, gI_sN, gR_sI, gR_sR, gR_sA, gR_sL, gR_sF, gR_sQ, gR_sG, gR_sN, gA_sI, gA_sR, gA_sA, gA_sL, gA_sF, gA_sQ, gA_sG, gA_sN, gL_sI, gL_sR, gL_sA, gL_sL, gL_sF, gL_sQ, gL_sG, gL_sN, gF_sI, gF_sR, gF_sA, gF_sL, gF_sF, gF_sQ, gF_sG, gF_sN, gQ_sI, gQ_sR, gQ_sA, gQ_sL, gQ_sF, gQ_sQ, gQ_sG, gQ_sN, gN_sI, gN_sR, gN_sA, gN_sL, gN_sF, gN_sQ, gN_sG, gN_sN, gS_sI, gS_sR, gS_sA, gS_sL, gS_sF, gS_sQ, gS_sG, gS_sN, gO_sI, gO_sR, gO_sA, gO_sL, gO_sF, gO_sQ, gO_sN, isR_ref, isR_null, isR_rf, isR2_ref, isR2_null, isR2_rf, am_k_int, am_k_ref, am_k_null, am_k_rf, am_k_none, am_k_long, am_k_double, rf_some, rf_none, KT_ret, KT_void, XP_ap, true_and, and_true, Nat.reduceAdd, Nat.reduceEqDiff, reduceIte, if_true, if_false, eq_self, true_or, or_true, forall_const, not_true_eq_false, not_false_eq_true]
    refine f_here (p := p1) hT rfl (by omega) (by omega) ?_
    simp only [x40_0, x40_1, x40_2, x40_5, x40_6, x40_7, x40_10, x40_12, x40_15, x40_18, x40_18f, x40_19, x40_22, x40_23, x40_26, x40_29, x40_30, x40_31, x40_32, x40_35, x40_36, x40_37, x40_40, x40_41, x40_44, x40_45, x40_46, x40_47, x40_50, x40_51, x40_52, x40_55, x40_56, x40_57, x40_61, x40_62, x40_65, x40_66, x40_68, x40_69, x40_70, x40_73, x40_76, x40_79, x40_79f, x40_80, x40_83, x40_86, x40_87, x40_88, x40_89, x40_90, x40_93, x40_96, gI_sI, gI_sR, gI_sA, gI_sL, gI_sF, gI_sQ, gI_sG, gI_sN, gR_sI, gR_sR, gR_sA, gR_sL, gR_sF, gR_sQ, gR_sG, gR_sN, gA_sI, gA_sR, gA_sA, gA_sL, gA_sF, gA_sQ, gA_sG, gA_sN, gL_sI, gL_sR, gL_sA, gL_sL, gL_sF, gL_sQ, gL_sG, gL_sN, gF_sI, gF_sR, gF_sA, gF_sL, gF_sF, gF_sQ, gF_sG, gF_sN, gQ_sI, gQ_sR, gQ_sA, gQ_sL, gQ_sF, gQ_sQ, gQ_sG, gQ_sN, gN_sI, gN_sR, gN_sA, gN_sL, gN_sF, gN_sQ, gN_sG, gN_sN, gS_sI, gS_sR, gS_sA, gS_sL, gS_sF, gS_sQ, gS_sG, gS_sN, gO_sI, gO_sR, gO_sA, gO_sL, gO_sF, gO_sQ, gO_sN, isR_ref, isR_null, isR_rf, isR2_ref, isR2_null, isR2_rf, am_k_int, am_k_ref, am_k_null, am_k_rf, am_k_none, am_k_long, am_k_double, rf_some, rf_none, KT_ret, KT_void, XP_ap, true_and, and_true, Nat.reduceAdd, Nat.reduceEqDiff, reduceIte, if_true, if_false, eq_self, true_or, or_true, forall_const, not_true_eq_false, not_false_eq_true]
    obtain ⟨b1, b2, m, rfl, hm⟩ := dgs_i (by omega) hv
    have hm4 : m < 10000 := Nat.lt_of_lt_of_le hm (Nat.pow_le_pow_right (n := 10) (i := p1 - p) (j := 4) (by decide) (by omega))
    have em : nat (i32 m) = m := i32_nat (by omega)
    refine ⟨fun hc => ?_, fun hc => ?_⟩
    · have hpl := ch_lt hc (by decide)
      have key : ∀ (t w : Nat) (D' : sS), t ≤ 3 → w * 10 ^ t < 1000 → (XW 40 d' Q 76 [some (.ref 25), some (.int (i32 m)), some (.int (i32 (p1 + 1))), some (.int (i32 (w * 10 ^ t))), some (.int (i32 3))] [] (toH D')) → XW 40 d' Q 59 [some (.ref 25), some (.int (i32 m)), some (.int (i32 (p1 + 1))), some (.int (i32 w)), some (.int (i32 (3 - t)))] [] (toH D') := by
        intro t
        induction t with
        | zero =>
          intro w D' _ hw hX
          rw [Nat.pow_zero, Nat.mul_one] at hX
          rw [x40_59]
          simp only [x40_0, x40_1, x40_2, x40_5, x40_6, x40_7, x40_10, x40_12, x40_15, x40_18, x40_18f, x40_19, x40_22, x40_23, x40_26, x40_29, x40_30, x40_31, x40_32, x40_35, x40_36, x40_37, x40_40, x40_41, x40_44, x40_45, x40_46, x40_47, x40_50, x40_51, x40_52, x40_55, x40_56, x40_57, x40_61, x40_62, x40_65, x40_66, x40_68, x40_69, x40_70, x40_73, x40_79, x40_79f, x40_80, x40_83, x40_86, x40_87, x40_88, x40_89, x40_90, x40_93, x40_96, gI_sI, gI_sR, gI_sA, gI_sL, gI_sF, gI_sQ, gI_sG, gI_sN, gR_sI, gR_sR, gR_sA, gR_sL, gR_sF, gR_sQ, gR_sG, gR_sN, gA_sI, gA_sR, gA_sA, gA_sL, gA_sF, gA_sQ, gA_sG, gA_sN, gL_sI, gL_sR, gL_sA, gL_sL, gL_sF, gL_sQ, gL_sG, gL_sN, gF_sI, gF_sR, gF_sA, gF_sL, gF_sF, gF_sQ, gF_sG, gF_sN, gQ_sI, gQ_sR, gQ_sA, gQ_sL, gQ_sF, gQ_sQ, gQ_sG, gQ_sN, gN_sI, gN_sR, gN_sA, gN_sL, gN_sF, gN_sQ, gN_sG, gN_sN, gS_sI, gS_sR, gS_sA, gS_sL, gS_sF, gS_sQ, gS_sG, gS_sN, gO_sI, gO_sR, gO_sA, gO_sL, gO_sF, gO_sQ, gO_sN, isR_ref, isR_null, isR_rf, isR2_ref, isR2_null, isR2_rf, am_k_int, am_k_ref, am_k_null, am_k_rf, am_k_none, am_k_long, am_k_double, rf_some, rf_none, KT_ret, KT_void, XP_ap, true_and, and_true, Nat.reduceAdd, Nat.reduceEqDiff, reduceIte, if_true, if_false, eq_self, true_or, or_true, forall_const, not_true_eq_false, not_false_eq_true]
          exact ⟨fun _ => hX, fun h => absurd (by decide : ¬ (i32 3 : Int32) < 3) (fun z => z h)⟩
        | succ t it =>
          intro w D' ht hw hX
          rw [x40_59]
          simp only [x40_0, x40_1, x40_2, x40_5, x40_6, x40_7, x40_10, x40_12, x40_15, x40_18, x40_18f, x40_19, x40_22, x40_23, x40_26, x40_29, x40_30, x40_31, x40_32, x40_35, x40_36, x40_37, x40_40, x40_41, x40_44, x40_45, x40_46, x40_47, x40_50, x40_51, x40_52, x40_55, x40_56, x40_57, x40_61, x40_62, x40_65, x40_66, x40_68, x40_69, x40_70, x40_73, x40_79, x40_79f, x40_80, x40_83, x40_86, x40_87, x40_88, x40_89, x40_90, x40_93, x40_96, gI_sI, gI_sR, gI_sA, gI_sL, gI_sF, gI_sQ, gI_sG, gI_sN, gR_sI, gR_sR, gR_sA, gR_sL, gR_sF, gR_sQ, gR_sG, gR_sN, gA_sI, gA_sR, gA_sA, gA_sL, gA_sF, gA_sQ, gA_sG, gA_sN, gL_sI, gL_sR, gL_sA, gL_sL, gL_sF, gL_sQ, gL_sG, gL_sN, gF_sI, gF_sR, gF_sA, gF_sL, gF_sF, gF_sQ, gF_sG, gF_sN, gQ_sI, gQ_sR, gQ_sA, gQ_sL, gQ_sF, gQ_sQ, gQ_sG, gQ_sN, gN_sI, gN_sR, gN_sA, gN_sL, gN_sF, gN_sQ, gN_sG, gN_sN, gS_sI, gS_sR, gS_sA, gS_sL, gS_sF, gS_sQ, gS_sG, gS_sN, gO_sI, gO_sR, gO_sA, gO_sL, gO_sF, gO_sQ, gO_sN, isR_ref, isR_null, isR_rf, isR2_ref, isR2_null, isR2_rf, am_k_int, am_k_ref, am_k_null, am_k_rf, am_k_none, am_k_long, am_k_double, rf_some, rf_none, KT_ret, KT_void, XP_ap, true_and, and_true, Nat.reduceAdd, Nat.reduceEqDiff, reduceIte, if_true, if_false, eq_self, true_or, or_true, forall_const, not_true_eq_false, not_false_eq_true]
          have e3 : (3 : Int32) = i32 3 := rfl
          have e10 : (10 : Int32) = i32 10 := rfl
          have et : 3 - (t + 1) + 1 = 3 - t := by omega
          have ew : w * 10 ^ (t + 1) = w * 10 * 10 ^ t := by rw [Nat.pow_succ]; rw [Nat.mul_assoc, Nat.mul_comm 10]
          rw [e3, i32_lt (by omega) (by omega), e10, i32_mul, i32_add1, et]
          rw [ew] at hX hw
          exact ⟨fun h => absurd (by omega : 3 - (t + 1) < 3) h, fun _ => it (w * 10) D' (by omega) hw hX⟩
      dsimp only at hP
      rw [if_pos hc] at hP
      rw [i32_add1, sI_sI]
      refine f_digits (D := sI D 141 (i32 (p1 + 1))) (k := 3) (p := p1 + 1) hT rfl (by omega) (by omega) (hR.cap (D := D) (by omega) (by omega)) (by omega) ?_ ?_
      · intro w p2 hw hlt2 hp2
        rw [hw] at hP
        obtain ⟨c1, c2, m2, rfl, hm2⟩ := dgs_i (by omega) hw
        have em2 : nat (i32 m2) = m2 := by
          have : m2 < 10 ^ 3 := Nat.lt_of_lt_of_le hm2 (Nat.pow_le_pow_right (by decide) (by omega))
          exact i32_nat (by omega)
        dsimp only at hP
        rw [em, em2] at hP
        simp only [x40_0, x40_1, x40_2, x40_5, x40_6, x40_7, x40_10, x40_12, x40_15, x40_18, x40_18f, x40_19, x40_22, x40_23, x40_26, x40_29, x40_30, x40_31, x40_32, x40_35, x40_36, x40_37, x40_40, x40_41, x40_44, x40_45, x40_46, x40_47, x40_50, x40_51, x40_52, x40_55, x40_56, x40_57, x40_61, x40_62, x40_65, x40_66, x40_68, x40_69, x40_70, x40_73, x40_76, x40_79, x40_79f, x40_80, x40_83, x40_86, x40_87, x40_88, x40_89, x40_90, x40_93, x40_96, gI_sI, gI_sR, gI_sA, gI_sL, gI_sF, gI_sQ, gI_sG, gI_sN, gR_sI, gR_sR, gR_sA, gR_sL, gR_sF, gR_sQ, gR_sG, gR_sN, gA_sI, gA_sR, gA_sA, gA_sL, gA_sF, gA_sQ, gA_sG, gA_sN, gL_sI, gL_sR, gL_sA, gL_sL, gL_sF, gL_sQ, gL_sG, gL_sN, gF_sI, gF_sR, gF_sA, gF_sL, gF_sF, gF_sQ, gF_sG, gF_sN, gQ_sI, gQ_sR, gQ_sA, gQ_sL, gQ_sF, gQ_sQ, gQ_sG, gQ_sN, gN_sI, gN_sR, gN_sA, gN_sL, gN_sF, gN_sQ, gN_sG, gN_sN, gS_sI, gS_sR, gS_sA, gS_sL, gS_sF, gS_sQ, gS_sG, gS_sN, gO_sI, gO_sR, gO_sA, gO_sL, gO_sF, gO_sQ, gO_sN, isR_ref, isR_null, isR_rf, isR2_ref, isR2_null, isR2_rf, am_k_int, am_k_ref, am_k_null, am_k_rf, am_k_none, am_k_long, am_k_double, rf_some, rf_none, KT_ret, KT_void, XP_ap, true_and, and_true, Nat.reduceAdd, Nat.reduceEqDiff, reduceIte, if_true, if_false, eq_self, true_or, or_true, forall_const, not_true_eq_false, not_false_eq_true]
        rw [sI_sI, i32_sub (by omega) (by omega)]
        have e9 : p2 - (p1 + 1) = 3 - (3 - (p2 - (p1 + 1))) := by omega
        rw [e9]
        generalize ht : 3 - (p2 - (p1 + 1)) = t at *
        have hw9 : m2 * 10 ^ t < 1000 := by
          have h1 : m2 < 10 ^ (3 - t) := by rw [e9] at hm2; exact hm2
          have h2 : (1000 : Nat) = 10 ^ (3 - t) * 10 ^ t := by rw [← Nat.pow_add, Nat.sub_add_cancel (by omega)]
          rw [h2]
          exact Nat.mul_lt_mul_of_pos_right h1 (Nat.pow_pos (by decide))
        refine key t m2 _ (by omega) hw9 ?_
        simp only [x40_0, x40_1, x40_2, x40_5, x40_6, x40_7, x40_10, x40_12, x40_15, x40_18, x40_18f, x40_19, x40_22, x40_23, x40_26, x40_29, x40_30, x40_31, x40_32, x40_35, x40_36, x40_37, x40_40, x40_41, x40_44, x40_45, x40_46, x40_47, x40_50, x40_51, x40_52, x40_55, x40_56, x40_57, x40_61, x40_62, x40_65, x40_66, x40_68, x40_69, x40_70, x40_73, x40_76, x40_79, x40_79f, x40_80, x40_83, x40_86, x40_87, x40_88, x40_89, x40_90, x40_93, x40_96, gI_sI, gI_sR, gI_sA, gI_sL, gI_sF, gI_sQ, gI_sG, gI_sN, gR_sI, gR_sR, gR_sA, gR_sL, gR_sF, gR_sQ, gR_sG, gR_sN, gA_sI, gA_sR, gA_sA, gA_sL, gA_sF, gA_sQ, gA_sG, gA_sN, gL_sI, gL_sR, gL_sA, gL_sL, gL_sF, gL_sQ, gL_sG, gL_sN, gF_sI, gF_sR, gF_sA, gF_sL, gF_sF, gF_sQ, gF_sG, gF_sN, gQ_sI, gQ_sR, gQ_sA, gQ_sL, gQ_sF, gQ_sQ, gQ_sG, gQ_sN, gN_sI, gN_sR, gN_sA, gN_sL, gN_sF, gN_sQ, gN_sG, gN_sN, gS_sI, gS_sR, gS_sA, gS_sL, gS_sF, gS_sQ, gS_sG, gS_sN, gO_sI, gO_sR, gO_sA, gO_sL, gO_sF, gO_sQ, gO_sN, isR_ref, isR_null, isR_rf, isR2_ref, isR2_null, isR2_rf, am_k_int, am_k_ref, am_k_null, am_k_rf, am_k_none, am_k_long, am_k_double, rf_some, rf_none, KT_ret, KT_void, XP_ap, true_and, and_true, Nat.reduceAdd, Nat.reduceEqDiff, reduceIte, if_true, if_false, eq_self, true_or, or_true, forall_const, not_true_eq_false, not_false_eq_true]
        refine ⟨hR.cap (D := D) (by omega) (by omega), ?_⟩
        have ek : (1000 : Int32) = i32 1000 := rfl
        rw [ek, i32_mul, i32_add]
        refine f_plain (by omega) gO_new ?_
        simp only [x40_0, x40_1, x40_2, x40_5, x40_6, x40_7, x40_10, x40_12, x40_15, x40_18, x40_18f, x40_19, x40_22, x40_23, x40_26, x40_29, x40_30, x40_31, x40_32, x40_35, x40_36, x40_37, x40_40, x40_41, x40_44, x40_45, x40_46, x40_47, x40_50, x40_51, x40_52, x40_55, x40_56, x40_57, x40_61, x40_62, x40_65, x40_66, x40_68, x40_69, x40_70, x40_73, x40_76, x40_79, x40_79f, x40_80, x40_83, x40_86, x40_87, x40_88, x40_89, x40_90, x40_93, x40_96, gI_sI, gI_sR, gI_sA, gI_sL, gI_sF, gI_sQ, gI_sG, gI_sN, gR_sI, gR_sR, gR_sA, gR_sL, gR_sF, gR_sQ, gR_sG, gR_sN, gA_sI, gA_sR, gA_sA, gA_sL, gA_sF, gA_sQ, gA_sG, gA_sN, gL_sI, gL_sR, gL_sA, gL_sL, gL_sF, gL_sQ, gL_sG, gL_sN, gF_sI, gF_sR, gF_sA, gF_sL, gF_sF, gF_sQ, gF_sG, gF_sN, gQ_sI, gQ_sR, gQ_sA, gQ_sL, gQ_sF, gQ_sQ, gQ_sG, gQ_sN, gN_sI, gN_sR, gN_sA, gN_sL, gN_sF, gN_sQ, gN_sG, gN_sN, gS_sI, gS_sR, gS_sA, gS_sL, gS_sF, gS_sQ, gS_sG, gS_sN, gO_sI, gO_sR, gO_sA, gO_sL, gO_sF, gO_sQ, gO_sN, isR_ref, isR_null, isR_rf, isR2_ref, isR2_null, isR2_rf, am_k_int, am_k_ref, am_k_null, am_k_rf, am_k_none, am_k_long, am_k_double, rf_some, rf_none, KT_ret, KT_void, XP_ap, true_and, and_true, Nat.reduceAdd, Nat.reduceEqDiff, reduceIte, if_true, if_false, eq_self, true_or, or_true, forall_const, not_true_eq_false, not_false_eq_true]
        refine hQ.ret hP _ _ (FP.wr (by omega) (FP.refl.at_.new (by omega))) rfl hdep (by omega) hp2 (by rw [gN_sG, gN_sN, gN_sI]; omega) ?_
        exact EX.leaf (D := sI D 141 (i32 p2)) (k := 3) (v := 1000 * m + m2 * 10 ^ t) (op := 2) _
      · intro p' hv
        rw [hv] at hP
        cases hP
        rw [KT_thr rfl]
        rw [sI_sI]
        exact hQ _ _ (FP.refl.at_.new (by omega)) (by rw [gN_sN, gN_sI]; omega)
    · dsimp only at hP
      rw [if_neg hc, em] at hP
      refine ⟨hR.cap (D := D) (by omega) (by omega), ?_⟩
      refine f_plain (by omega) gO_new ?_
      simp only [x40_0, x40_1, x40_2, x40_5, x40_6, x40_7, x40_10, x40_12, x40_15, x40_18, x40_18f, x40_19, x40_22, x40_23, x40_26, x40_29, x40_30, x40_31, x40_32, x40_35, x40_36, x40_37, x40_40, x40_41, x40_44, x40_45, x40_46, x40_47, x40_50, x40_51, x40_52, x40_55, x40_56, x40_57, x40_61, x40_62, x40_65, x40_66, x40_68, x40_69, x40_70, x40_73, x40_76, x40_79, x40_79f, x40_80, x40_83, x40_86, x40_87, x40_88, x40_89, x40_90, x40_93, x40_96, gI_sI, gI_sR, gI_sA, gI_sL, gI_sF, gI_sQ, gI_sG, gI_sN, gR_sI, gR_sR, gR_sA, gR_sL, gR_sF, gR_sQ, gR_sG, gR_sN, gA_sI, gA_sR, gA_sA, gA_sL, gA_sF, gA_sQ, gA_sG, gA_sN, gL_sI, gL_sR, gL_sA, gL_sL, gL_sF, gL_sQ, gL_sG, gL_sN, gF_sI, gF_sR, gF_sA, gF_sL, gF_sF, gF_sQ, gF_sG, gF_sN, gQ_sI, gQ_sR, gQ_sA, gQ_sL, gQ_sF, gQ_sQ, gQ_sG, gQ_sN, gN_sI, gN_sR, gN_sA, gN_sL, gN_sF, gN_sQ, gN_sG, gN_sN, gS_sI, gS_sR, gS_sA, gS_sL, gS_sF, gS_sQ, gS_sG, gS_sN, gO_sI, gO_sR, gO_sA, gO_sL, gO_sF, gO_sQ, gO_sN, isR_ref, isR_null, isR_rf, isR2_ref, isR2_null, isR2_rf, am_k_int, am_k_ref, am_k_null, am_k_rf, am_k_none, am_k_long, am_k_double, rf_some, rf_none, KT_ret, KT_void, XP_ap, true_and, and_true, Nat.reduceAdd, Nat.reduceEqDiff, reduceIte, if_true, if_false, eq_self, true_or, or_true, forall_const, not_true_eq_false, not_false_eq_true]
      refine hQ.ret hP _ _ (FP.wr (by omega) (FP.refl.at_.new (by omega))) rfl hdep (by omega) hp1 (by rw [gN_sG, gN_sN, gN_sI]; omega) ?_
      exact EX.leaf (D := sI D 141 (i32 p1)) (k := 3) (v := m) (op := 0) _
  · intro p' hv
    rw [hv] at hP
    cases hP
    rw [KT_thr rfl]
    exact hQ _ _ (FP.refl.at_.new (by omega)) (by rw [gN_sN, gN_sI]; omega)
end RF
