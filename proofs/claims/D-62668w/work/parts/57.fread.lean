/-! FunDesk, reading: the contract, and the chains of operands -/
set_option maxRecDepth 100000
def mG (g : Nat) : Nat := match g with
  | 0 => 26
  | 1 => 31
  | 2 => 32
  | 3 => 33
  | 4 => 34
  | 5 => 35
  | 6 => 36
  | 7 => 47
  | _ => 48
def TX (D : sS) (A g : Nat) (e : tE) (a : Nat) : Prop := if g < 7 then EX (gO D) A (82 + gN D) e none a else PX (gO D) A (82 + gN D) e a
def RP (Q : am_O → am_H → Prop) (D : sS) (n p dep g : Nat) (r : Option (tE × Nat × Int32)) : Prop := match r with
  | none => ∀ D' x, FP D D' → gN D' ≤ gN D + 3 * (n - p) + 1 → Q (.inr (x, 23)) (toH D')
  | some (e, p', b) => ∀ D' a, FP D D' → gI D' 141 = i32 p' → gI D' 142 = i32 dep → (7 ≤ g → gI D' 143 = b) → p' ≤ n → gN D' + 3 * p + 1 ≤ gN D + 3 * p' → TX D' (82 + gN D) g e a → Q (.inl (some (.ref a))) (toH D')
def CT (tx : Nat → Int32) (n f : Nat) : Prop := ∀ (g p dep : Nat) (bn : Int32) (acc : tE) (r : Option (tE × Nat × Int32)) (d : Nat) (D : sS) (Q : am_O → am_H → Prop), PR tx n f g p dep bn acc = some r → g ≤ 8 → TF D tx n → gI D 141 = i32 p → p ≤ n → gI D 142 = i32 dep → dep ≤ 16 → (7 ≤ g → gI D 143 = bn) → RM D (3 * (n - p) + 2) → 3 * f + 4 ≤ d → RP Q D n p dep g r → AC d (mG g) [.ref 25] (toH D) Q
section RD
variable {d : Nat} {D : sS} {Q : am_O → am_H → Prop} {tx : Nat → Int32} {n p dep f : Nat} {bn : Int32} {acc : tE} {r : Option (tE × Nat × Int32)}
theorem EX.up {D D' : sS} {A A' a : Nat} {e : tE} {m : Option ((Nat → Value) × (Nat → Value))} (hf : FP D D') (hA : A' ≤ A) (h : EX (gO D) A (82 + gN D) e m a) : EX (gO D') A' (82 + gN D') e m a := EX.mono (fun b _ hb => hf.obj hb) hA (by have := hf.2.2.2.2.2.2.2.1; omega) e m a h
theorem PX.up {D D' : sS} {A A' a : Nat} {e : tE} (hf : FP D D') (hA : A' ≤ A) (h : PX (gO D) A (82 + gN D) e a) : PX (gO D') A' (82 + gN D') e a := PX.mono (fun b _ hb => hf.obj hb) hA (by have := hf.2.2.2.2.2.2.2.1; omega) e a h
theorem RP.thr {g : Nat} (h : RP Q D n p dep g r) (hr : r = none) : ∀ D' x, FP D D' → gN D' ≤ gN D + 3 * (n - p) + 1 → Q (.inr (x, 23)) (toH D') := by subst hr; exact h
theorem RP.ret {g : Nat} {e : tE} {p' : Nat} {b : Int32} (h : RP Q D n p dep g r) (hr : rok e p' b = some r) : ∀ D' a, FP D D' → gI D' 141 = i32 p' → gI D' 142 = i32 dep → (7 ≤ g → gI D' 143 = b) → p' ≤ n → gN D' + 3 * p + 1 ≤ gN D + 3 * p' → TX D' (82 + gN D) g e a → Q (.inl (some (.ref a))) (toH D') := by cases hr; exact h
theorem CT.call {F : tE → Nat → Int32 → tR} {g : Nat} (ih : CT tx n f) (hP : bd (PR tx n f g p dep bn acc) F = some r) (hg : g ≤ 8) (hT : TF D tx n) (hp : gI D 141 = i32 p) (hpn : p ≤ n) (hdep : gI D 142 = i32 dep) (hd16 : dep ≤ 16) (hbn : 7 ≤ g → gI D 143 = bn) (hR : RM D (3 * (n - p) + 2)) (hd : 3 * f + 4 ≤ d)
    (hthr : r = none → ∀ D' x, FP D D' → gN D' ≤ gN D + 3 * (n - p) + 1 → Q (.inr (x, 23)) (toH D'))
    (hret : ∀ e p1 b1 D' a, F e p1 b1 = some r → FP D D' → gI D' 141 = i32 p1 → gI D' 142 = i32 dep → (7 ≤ g → gI D' 143 = b1) → p1 ≤ n → p < p1 → gN D' + 3 * p + 1 ≤ gN D + 3 * p1 → TX D' (82 + gN D) g e a → TF D' tx n → Q (.inl (some (.ref a))) (toH D')) : AC d (mG g) [.ref 25] (toH D) Q := by
  cases h1 : PR tx n f g p dep bn acc with
  | none => rw [h1] at hP; cases hP
  | some r1 =>
    refine ih g p dep bn acc r1 d D _ h1 hg hT hp hpn hdep hd16 hbn hR hd ?_
    rw [h1] at hP
    match r1, hP with
    | none, hP => cases hP; exact hthr rfl
    | some (e, p1, b1), hP =>
      intro D' a hF h141 h142 h143 hp1 hN hX
      refine hret e p1 b1 D' a hP hF h141 h142 h143 hp1 ?_ hN hX (hF.tf hT)
      have := hF.2.2.2.2.2.2.2.1
      omega
/-- the last call -/
theorem CT.last {g : Nat} (ih : CT tx n f) (hP : PR tx n f g p dep bn acc = some r) (hg : g ≤ 8) (hT : TF D tx n) (hp : gI D 141 = i32 p) (hpn : p ≤ n) (hdep : gI D 142 = i32 dep) (hd16 : dep ≤ 16) (hbn : 7 ≤ g → gI D 143 = bn) (hR : RM D (3 * (n - p) + 2)) (hd : 3 * f + 4 ≤ d)
    (hthr : r = none → ∀ D' x, FP D D' → gN D' ≤ gN D + 3 * (n - p) + 1 → Q (.inr (x, 23)) (toH D'))
    (hret : ∀ e p1 b1 D' a, rok e p1 b1 = some r → FP D D' → gI D' 141 = i32 p1 → gI D' 142 = i32 dep → (7 ≤ g → gI D' 143 = b1) → p1 ≤ n → p < p1 → gN D' + 3 * p + 1 ≤ gN D + 3 * p1 → TX D' (82 + gN D) g e a → TF D' tx n → Q (.inl (some (.ref a))) (toH D')) : AC d (mG g) [.ref 25] (toH D) Q := by
  refine ih.call (F := rok) (acc := acc) ?_ hg hT hp hpn hdep hd16 hbn hR hd hthr hret
  rw [hP]
  match r with
  | none => rfl
  | some (e, p1, b1) => rfl
theorem EX.wr {A B a j : Nat} {e : tE} {m : Option ((Nat → Value) × (Nat → Value))} {u y : am_C} {D : sS} (ho : gO D j = some y) (hj : j < A ∨ B ≤ j) (h : EX (gO D) A B e m a) : EX (gO (sG D j u)) A B e m a := EX.mono (fun b h1 h2 => by rw [gO_sG ho, if_neg (by omega)]) (Nat.le_refl _) (Nat.le_refl _) e m a h
theorem PX.wr {A B a j : Nat} {e : tE} {u y : am_C} {D : sS} (ho : gO D j = some y) (hj : j < A ∨ B ≤ j) (h : PX (gO D) A B e a) : PX (gO (sG D j u)) A B e a := PX.mono (fun b h1 h2 => by rw [gO_sG ho, if_neg (by omega)]) (Nat.le_refl _) (Nat.le_refl _) e a h
theorem gO_new {D : sS} {u : am_C} {k : Nat} : gO (sN D u k) (82 + gN D) = some u := by rw [gO_sN, if_pos rfl]
/-- an operation of two -/
theorem EX.two {D D1 D2 : sS} {A a b : Nat} {e e' : tE} {s : Nat} {y : am_C} (h1 : EX (gO D) A (82 + gN D) e none a) (hF : FP D D1) (hN : gN D1 = gN D + 1) (hF2 : FP D1 D2) (ho : gO D2 (82 + gN D) = some y) (h2 : EX (gO D2) (82 + gN D1) (82 + gN D2) e' none b) (hA : A ≤ 82 + gN D) : EX (gO (sG D2 (82 + gN D) (.inr (6, [.int (i32 s), .ref a, .ref b])))) A (82 + gN D2) (eOp s e e') none (82 + gN D) := by
  have hm := hF2.2.2.2.2.2.2.2.1
  unfold eOp EX
  refine ⟨hA, by omega, a, b, by rw [gO_sG ho, if_pos rfl], ?_, ?_⟩
  · refine EX.mono (fun b h1 h2 => ?_) (Nat.le_refl _) (by omega) _ _ _ h1
    rw [gO_sG ho, if_neg (by omega), (hF.trans hF2).obj h2]
  · refine EX.mono (fun b h1 h2 => ?_) (by omega) (by omega) _ _ _ h2
    rw [gO_sG ho, if_neg (by omega)]
/-- 1 CONS -/
theorem c_cons (ih : CT tx n f) (hP : PR tx n (f + 1) 1 p dep bn acc = some r) (hT : TF D tx n) (hp : gI D 141 = i32 p) (hpn : p ≤ n) (hdep : gI D 142 = i32 dep) (hd16 : dep ≤ 16) (hR : RM D (3 * (n - p) + 2)) (hd : 3 * (f + 1) + 4 ≤ d) (hQ : RP Q D n p dep 1 r) : AC d 31 [.ref 25] (toH D) Q := by
  refine AC.pos (k := 3 * f + 6) (by omega) fun d' hd' => ?_
  rw [e31]
  simp only [x31_0, x31_1, x31_4, x31_5, x31_6, x31_8, x31_11, x31_14, x31_17, x31_17f, x31_18, x31_20, x31_21, x31_22, x31_25, x31_28, x31_31, x31_32, gI_sI, gI_sR, gI_sA, gI_sL, gI_sF, gI_sQ, gI_sG, gI_sN, gR_sI, gR_sR, gR_sA, gR_sL, gR_sF, gR_sQ, gR_sG, gR_sN, gA_sI, gA_sR, gA_sA, gA_sL, gA_sF, gA_sQ, gA_sG, gA_sN, gL_sI, gL_sR, gL_sA, gL_sL, gL_sF, gL_sQ, gL_sG, gL_sN, gF_sI, gF_sR, gF_sA, gF_sL, gF_sF, gF_sQ, gF_sG, gF_sN, gQ_sI, gQ_sR, gQ_sA, gQ_sL, gQ_sF, gQ_sQ, gQ_sG, gQ_sN, gN_sI, gN_sR, gN_sA, gN_sL, gN_sF, gN_sQ, gN_sG, gN_sN, gS_sI, gS_sR, gS_sA, gS_sL, gS_sF, gS_sQ, gS_sG, gS_sN, gO_sI, gO_sR, gO_sA, gO_sL, gO_sF, gO_sQ, gO_sN, isR_ref, isR_null, isR_rf, isR2_ref, isR2_null, isR2_rf, am_k_int, am_k_ref, am_k_null, am_k_rf, am_k_none, am_k_long, am_k_double, rf_some, rf_none, KT_ret, KT_void, XP_ap, true_and, and_true, Nat.reduceAdd, Nat.reduceEqDiff, reduceIte, if_true, if_false, eq_self, true_or, or_true, forall_const, not_true_eq_false, not_false_eq_true]
  have hn := hT.2.1
  unfold PR at hP
  refine ih.call (g := 2) hP (by omega) hT hp hpn hdep hd16 (by omega) hR (by omega) (fun hr D' x hF hN => by rw [KT_thr rfl]; exact hQ.thr hr D' x hF hN) ?_
  intro e p1 b1 D' a hP hF h141 h142 _ hp1 hlt hN hX hT'
  simp only [x31_0, x31_1, x31_4, x31_5, x31_6, x31_8, x31_11, x31_14, x31_17, x31_17f, x31_18, x31_20, x31_21, x31_22, x31_25, x31_28, x31_31, x31_32, gI_sI, gI_sR, gI_sA, gI_sL, gI_sF, gI_sQ, gI_sG, gI_sN, gR_sI, gR_sR, gR_sA, gR_sL, gR_sF, gR_sQ, gR_sG, gR_sN, gA_sI, gA_sR, gA_sA, gA_sL, gA_sF, gA_sQ, gA_sG, gA_sN, gL_sI, gL_sR, gL_sA, gL_sL, gL_sF, gL_sQ, gL_sG, gL_sN, gF_sI, gF_sR, gF_sA, gF_sL, gF_sF, gF_sQ, gF_sG, gF_sN, gQ_sI, gQ_sR, gQ_sA, gQ_sL, gQ_sF, gQ_sQ, gQ_sG, gQ_sN, gN_sI, gN_sR, gN_sA, gN_sL, gN_sF, gN_sQ, gN_sG, gN_sN, gS_sI, gS_sR, gS_sA, gS_sL, gS_sF, gS_sQ, gS_sG, gS_sN, gO_sI, gO_sR, gO_sA, gO_sL, gO_sF, gO_sQ, gO_sN, isR_ref, isR_null, isR_rf, isR2_ref, isR2_null, isR2_rf, am_k_int, am_k_ref, am_k_null, am_k_rf, am_k_none, am_k_long, am_k_double, rf_some, rf_none, KT_ret, KT_void, XP_ap, true_and, and_true, Nat.reduceAdd, Nat.reduceEqDiff, reduceIte, if_true, if_false, eq_self, true_or, or_true, forall_const, not_true_eq_false, not_false_eq_true]
  have hs := sk_lt (tx := tx) hp1
  have hs2 := sk_le (tx := tx) (n := n) (p := p1)
  refine f_eat hT' h141 (by omega) (by omega) ?_ ?_
  · intro hc
    rw [if_pos hc] at hP
    have hs1 := ch_lt hc (by decide)
    simp only [x31_0, x31_1, x31_4, x31_5, x31_6, x31_8, x31_11, x31_14, x31_17, x31_17f, x31_18, x31_20, x31_21, x31_22, x31_25, x31_28, x31_31, x31_32, gI_sI, gI_sR, gI_sA, gI_sL, gI_sF, gI_sQ, gI_sG, gI_sN, gR_sI, gR_sR, gR_sA, gR_sL, gR_sF, gR_sQ, gR_sG, gR_sN, gA_sI, gA_sR, gA_sA, gA_sL, gA_sF, gA_sQ, gA_sG, gA_sN, gL_sI, gL_sR, gL_sA, gL_sL, gL_sF, gL_sQ, gL_sG, gL_sN, gF_sI, gF_sR, gF_sA, gF_sL, gF_sF, gF_sQ, gF_sG, gF_sN, gQ_sI, gQ_sR, gQ_sA, gQ_sL, gQ_sF, gQ_sQ, gQ_sG, gQ_sN, gN_sI, gN_sR, gN_sA, gN_sL, gN_sF, gN_sQ, gN_sG, gN_sN, gS_sI, gS_sR, gS_sA, gS_sL, gS_sF, gS_sQ, gS_sG, gS_sN, gO_sI, gO_sR, gO_sA, gO_sL, gO_sF, gO_sQ, gO_sN, isR_ref, isR_null, isR_rf, isR2_ref, isR2_null, isR2_rf, am_k_int, am_k_ref, am_k_null, am_k_rf, am_k_none, am_k_long, am_k_double, rf_some, rf_none, KT_ret, KT_void, XP_ap, true_and, and_true, Nat.reduceAdd, Nat.reduceEqDiff, reduceIte, if_true, if_false, eq_self, true_or, or_true, forall_const, not_true_eq_false, not_false_eq_true]
    have hR' : RM (sI D' 141 (i32 (sk tx n p1 + 1))) (3 * (n - (sk tx n p1 + 1)) + 4) := hR.go hF.at_ (by rw [gN_sI]; omega)
    refine ⟨fun h => absurd h (by decide), fun _ => ⟨hR'.cap (by omega) (by omega), ?_⟩⟩
    have hF1 : FP D' (sN (sI D' 141 (i32 (sk tx n p1 + 1))) (.inr (6, [.int 0, .null, .null])) 3) := FP.refl.at_.new (by omega)
    generalize hD1 : sN (sI D' 141 (i32 (sk tx n p1 + 1))) (.inr (6, [.int 0, .null, .null])) 3 = D1 at hF1
    have hN1 : gN D1 = gN D' + 1 := by rw [← hD1]; rfl
    refine AC.pos (k := 3 * f + 5) (by omega) fun d2 hd2 => ?_
    rw [e45]
    simp only [x45_0, x45_1, x45_4, gI_sI, gI_sR, gI_sA, gI_sL, gI_sF, gI_sQ, gI_sG, gI_sN, gR_sI, gR_sR, gR_sA, gR_sL, gR_sF, gR_sQ, gR_sG, gR_sN, gA_sI, gA_sR, gA_sA, gA_sL, gA_sF, gA_sQ, gA_sG, gA_sN, gL_sI, gL_sR, gL_sA, gL_sL, gL_sF, gL_sQ, gL_sG, gL_sN, gF_sI, gF_sR, gF_sA, gF_sL, gF_sF, gF_sQ, gF_sG, gF_sN, gQ_sI, gQ_sR, gQ_sA, gQ_sL, gQ_sF, gQ_sQ, gQ_sG, gQ_sN, gN_sI, gN_sR, gN_sA, gN_sL, gN_sF, gN_sQ, gN_sG, gN_sN, gS_sI, gS_sR, gS_sA, gS_sL, gS_sF, gS_sQ, gS_sG, gS_sN, gO_sI, gO_sR, gO_sA, gO_sL, gO_sF, gO_sQ, gO_sN, isR_ref, isR_null, isR_rf, isR2_ref, isR2_null, isR2_rf, am_k_int, am_k_ref, am_k_null, am_k_rf, am_k_none, am_k_long, am_k_double, rf_some, rf_none, KT_ret, KT_void, XP_ap, true_and, and_true, Nat.reduceAdd, Nat.reduceEqDiff, reduceIte, if_true, if_false, eq_self, true_or, or_true, forall_const, not_true_eq_false, not_false_eq_true]
    refine ih.call (g := 1) hP (by omega) (hF1.tf hT') (by rw [← hD1]; rfl) (by omega) (by rw [← hD1]; exact h142) hd16 (by omega) (hR'.go (D' := D1) (by rw [← hD1]; exact FP.refl.new (by omega)) (by rw [hN1, gN_sI]; omega)) (by omega) (fun hr D2 x hF2 hN2 => by rw [KT_thr rfl, KT_thr rfl]; exact hQ.thr hr D2 x (hF.trans (hF1.trans hF2)) (by omega)) ?_
    intro e2 p2 b2 D2 a2 hP2 hF2 h141 h142 _ hp2 hlt2 hN2 hX2 hT2
    simp only [x45_0, x45_1, x45_4, gI_sI, gI_sR, gI_sA, gI_sL, gI_sF, gI_sQ, gI_sG, gI_sN, gR_sI, gR_sR, gR_sA, gR_sL, gR_sF, gR_sQ, gR_sG, gR_sN, gA_sI, gA_sR, gA_sA, gA_sL, gA_sF, gA_sQ, gA_sG, gA_sN, gL_sI, gL_sR, gL_sA, gL_sL, gL_sF, gL_sQ, gL_sG, gL_sN, gF_sI, gF_sR, gF_sA, gF_sL, gF_sF, gF_sQ, gF_sG, gF_sN, gQ_sI, gQ_sR, gQ_sA, gQ_sL, gQ_sF, gQ_sQ, gQ_sG, gQ_sN, gN_sI, gN_sR, gN_sA, gN_sL, gN_sF, gN_sQ, gN_sG, gN_sN, gS_sI, gS_sR, gS_sA, gS_sL, gS_sF, gS_sQ, gS_sG, gS_sN, gO_sI, gO_sR, gO_sA, gO_sL, gO_sF, gO_sQ, gO_sN, isR_ref, isR_null, isR_rf, isR2_ref, isR2_null, isR2_rf, am_k_int, am_k_ref, am_k_null, am_k_rf, am_k_none, am_k_long, am_k_double, rf_some, rf_none, KT_ret, KT_void, XP_ap, true_and, and_true, Nat.reduceAdd, Nat.reduceEqDiff, reduceIte, if_true, if_false, eq_self, true_or, or_true, forall_const, not_true_eq_false, not_false_eq_true]
    simp only [x31_0, x31_1, x31_4, x31_5, x31_6, x31_8, x31_11, x31_14, x31_17, x31_17f, x31_18, x31_20, x31_21, x31_22, x31_25, x31_28, x31_31, x31_32, gI_sI, gI_sR, gI_sA, gI_sL, gI_sF, gI_sQ, gI_sG, gI_sN, gR_sI, gR_sR, gR_sA, gR_sL, gR_sF, gR_sQ, gR_sG, gR_sN, gA_sI, gA_sR, gA_sA, gA_sL, gA_sF, gA_sQ, gA_sG, gA_sN, gL_sI, gL_sR, gL_sA, gL_sL, gL_sF, gL_sQ, gL_sG, gL_sN, gF_sI, gF_sR, gF_sA, gF_sL, gF_sF, gF_sQ, gF_sG, gF_sN, gQ_sI, gQ_sR, gQ_sA, gQ_sL, gQ_sF, gQ_sQ, gQ_sG, gQ_sN, gN_sI, gN_sR, gN_sA, gN_sL, gN_sF, gN_sQ, gN_sG, gN_sN, gS_sI, gS_sR, gS_sA, gS_sL, gS_sF, gS_sQ, gS_sG, gS_sN, gO_sI, gO_sR, gO_sA, gO_sL, gO_sF, gO_sQ, gO_sN, isR_ref, isR_null, isR_rf, isR2_ref, isR2_null, isR2_rf, am_k_int, am_k_ref, am_k_null, am_k_rf, am_k_none, am_k_long, am_k_double, rf_some, rf_none, KT_ret, KT_void, XP_ap, true_and, and_true, Nat.reduceAdd, Nat.reduceEqDiff, reduceIte, if_true, if_false, eq_self, true_or, or_true, forall_const, not_true_eq_false, not_false_eq_true]
    have ho : gO D2 (82 + gN D') = some (.inr (6, [.int 0, .null, .null])) := by rw [hF2.obj (by omega), ← hD1]; exact gO_new
    refine f_oper (by omega) ho ?_
    simp only [x31_0, x31_1, x31_4, x31_5, x31_6, x31_8, x31_11, x31_14, x31_17, x31_17f, x31_18, x31_20, x31_21, x31_22, x31_25, x31_28, x31_31, x31_32, gI_sI, gI_sR, gI_sA, gI_sL, gI_sF, gI_sQ, gI_sG, gI_sN, gR_sI, gR_sR, gR_sA, gR_sL, gR_sF, gR_sQ, gR_sG, gR_sN, gA_sI, gA_sR, gA_sA, gA_sL, gA_sF, gA_sQ, gA_sG, gA_sN, gL_sI, gL_sR, gL_sA, gL_sL, gL_sF, gL_sQ, gL_sG, gL_sN, gF_sI, gF_sR, gF_sA, gF_sL, gF_sF, gF_sQ, gF_sG, gF_sN, gQ_sI, gQ_sR, gQ_sA, gQ_sL, gQ_sF, gQ_sQ, gQ_sG, gQ_sN, gN_sI, gN_sR, gN_sA, gN_sL, gN_sF, gN_sQ, gN_sG, gN_sN, gS_sI, gS_sR, gS_sA, gS_sL, gS_sF, gS_sQ, gS_sG, gS_sN, gO_sI, gO_sR, gO_sA, gO_sL, gO_sF, gO_sQ, gO_sN, isR_ref, isR_null, isR_rf, isR2_ref, isR2_null, isR2_rf, am_k_int, am_k_ref, am_k_null, am_k_rf, am_k_none, am_k_long, am_k_double, rf_some, rf_none, KT_ret, KT_void, XP_ap, true_and, and_true, Nat.reduceAdd, Nat.reduceEqDiff, reduceIte, if_true, if_false, eq_self, true_or, or_true, forall_const, not_true_eq_false, not_false_eq_true]
    refine hQ.ret hP2 _ _ (FP.wr (by have := hF.2.2.2.2.2.2.2.1; omega) (hF.trans (hF1.trans hF2))) h141 h142 (by omega) hp2 (by rw [gN_sG]; omega) ?_
    exact EX.two (s := 44) hX hF1 hN1 hF2 ho hX2 (by have := hF.2.2.2.2.2.2.2.1; omega)
  · intro hc
    rw [if_neg hc] at hP
    simp only [x31_0, x31_1, x31_4, x31_5, x31_6, x31_8, x31_11, x31_14, x31_17, x31_17f, x31_18, x31_20, x31_21, x31_22, x31_25, x31_28, x31_31, x31_32, gI_sI, gI_sR, gI_sA, gI_sL, gI_sF, gI_sQ, gI_sG, gI_sN, gR_sI, gR_sR, gR_sA, gR_sL, gR_sF, gR_sQ, gR_sG, gR_sN, gA_sI, gA_sR, gA_sA, gA_sL, gA_sF, gA_sQ, gA_sG, gA_sN, gL_sI, gL_sR, gL_sA, gL_sL, gL_sF, gL_sQ, gL_sG, gL_sN, gF_sI, gF_sR, gF_sA, gF_sL, gF_sF, gF_sQ, gF_sG, gF_sN, gQ_sI, gQ_sR, gQ_sA, gQ_sL, gQ_sF, gQ_sQ, gQ_sG, gQ_sN, gN_sI, gN_sR, gN_sA, gN_sL, gN_sF, gN_sQ, gN_sG, gN_sN, gS_sI, gS_sR, gS_sA, gS_sL, gS_sF, gS_sQ, gS_sG, gS_sN, gO_sI, gO_sR, gO_sA, gO_sL, gO_sF, gO_sQ, gO_sN, isR_ref, isR_null, isR_rf, isR2_ref, isR2_null, isR2_rf, am_k_int, am_k_ref, am_k_null, am_k_rf, am_k_none, am_k_long, am_k_double, rf_some, rf_none, KT_ret, KT_void, XP_ap, true_and, and_true, Nat.reduceAdd, Nat.reduceEqDiff, reduceIte, if_true, if_false, eq_self, true_or, or_true, forall_const, not_true_eq_false, not_false_eq_true]
    exact ⟨hQ.ret hP _ _ hF.at_ rfl h142 (by omega) hs (by rw [gN_sI]; omega) hX, fun h => h.elim⟩
end RD
