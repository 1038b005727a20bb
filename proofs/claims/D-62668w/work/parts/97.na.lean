/-! FunDesk: names around a place -/
set_option maxRecDepth 100000
/-- a row of names with their types -/
def SC (G : Nat → Option am_C) (B : Nat) : List (Nat × Option Nat) → Option Nat → Prop
  | [], r => r = none
  | (c, t) :: E, r => c < 128 ∧ ∃ a nx, r = some a ∧ 82 ≤ a ∧ a < B ∧ G a = some (.inr (16, [.int (i32 c), va_rf t, va_rf nx])) ∧ SC G B E nx
theorem i32_char : ∀ c, c < 128 → am_fit .char (.int (i32 c)) := by
  intro c hc
  have h : ∀ c, c < 128 → narrow .char (.int (i32 c)) = .int (i32 c) ∧ fits .char (.int (i32 c)) = true := by decide
  exact h c hc
section NA
variable {d : Nat} {D D' : sS} {Q : am_O → am_H → Prop} {a B c j : Nat} {x : Int32} {r t nx : Option Nat} {E : List (Nat × Option Nat)}
theorem SC.mono {G G' : Nat → Option am_C} {B' : Nat} (hG : ∀ b, b < B → G' b = G b) (hB : B ≤ B') : ∀ E r, SC G B E r → SC G' B' E r := by
  intro E
  induction E with
  | nil => intro r h; exact h
  | cons z E ih =>
    obtain ⟨c, t⟩ := z
    intro r ⟨hc, a, nx, h1, h2, h3, h4, h5⟩
    exact ⟨hc, a, nx, h1, h2, Nat.lt_of_lt_of_le h3 hB, (hG a h3).trans h4, ih nx h5⟩
theorem SC.up (hf : FP D D') (h : SC (gO D) (82 + gN D) E r) : SC (gO D') (82 + gN D') E r := SC.mono (fun b hb => hf.obj hb) (by have := hf.2.2.2.2.2.2.2.1; omega) E r h
theorem sG_sN {y z : am_C} {k : Nat} : sG (sN D y k) (82 + gN D) z = sN D z k := by
  unfold sG sN
  congr 7
  funext b
  dsimp only
  split <;> rfl
theorem cF_of {ci : Nat} {fs : List Value} {K : Nat → Prop} (h : gO D a = some (.inr (ci, fs))) (hi : am_imp j ci = true) : cF D a j K ↔ K ci := by
  unfold cF
  rw [h]
  exact ⟨fun z => z.2, fun z => ⟨hi, z⟩⟩
theorem f_scname {v1 v2 : Value} (ho : gO D a = some (.inr (16, [.int x, v1, v2]))) (hx : narrow .char (.int x) = .int x) (hd : 1 ≤ d) (hQ : Q (.inl (some (.int x))) (toH D)) : AC d 204 [.ref a] (toH D) Q := by
  refine AC.pos hd fun d' _ => ?_
  rw [e204 rfl]
  simp only [x204_0, x204_1, x204_4, gI_sI, gI_sR, gI_sA, gI_sL, gI_sF, gI_sQ, gI_sG, gI_sN, gR_sI, gR_sR, gR_sA, gR_sL, gR_sF, gR_sQ, gR_sG, gR_sN, gA_sI, gA_sR, gA_sA, gA_sL, gA_sF, gA_sQ, gA_sG, gA_sN, gL_sI, gL_sR, gL_sA, gL_sL, gL_sF, gL_sQ, gL_sG, gL_sN, gF_sI, gF_sR, gF_sA, gF_sL, gF_sF, gF_sQ, gF_sG, gF_sN, gQ_sI, gQ_sR, gQ_sA, gQ_sL, gQ_sF, gQ_sQ, gQ_sG, gQ_sN, gN_sI, gN_sR, gN_sA, gN_sL, gN_sF, gN_sQ, gN_sG, gN_sN, gS_sI, gS_sR, gS_sA, gS_sL, gS_sF, gS_sQ, gS_sG, gS_sN, gO_sI, gO_sR, gO_sA, gO_sL, gO_sF, gO_sQ, gO_sN, isR_ref, isR_null, isR_rf, isR2_ref, isR2_null, isR2_rf, am_k_int, am_k_ref, am_k_null, am_k_rf, am_k_none, am_k_long, am_k_double, rf_some, rf_none, KT_ret, KT_void, XP_ap, true_and, and_true, Nat.reduceAdd, Nat.reduceEqDiff, reduceIte, if_true, if_false, eq_self, true_or, or_true, forall_const, not_true_eq_false, not_false_eq_true]
  rw [fO_of ho rfl rfl]
  simp only [x204_0, x204_1, x204_4, gI_sI, gI_sR, gI_sA, gI_sL, gI_sF, gI_sQ, gI_sG, gI_sN, gR_sI, gR_sR, gR_sA, gR_sL, gR_sF, gR_sQ, gR_sG, gR_sN, gA_sI, gA_sR, gA_sA, gA_sL, gA_sF, gA_sQ, gA_sG, gA_sN, gL_sI, gL_sR, gL_sA, gL_sL, gL_sF, gL_sQ, gL_sG, gL_sN, gF_sI, gF_sR, gF_sA, gF_sL, gF_sF, gF_sQ, gF_sG, gF_sN, gQ_sI, gQ_sR, gQ_sA, gQ_sL, gQ_sF, gQ_sQ, gQ_sG, gQ_sN, gN_sI, gN_sR, gN_sA, gN_sL, gN_sF, gN_sQ, gN_sG, gN_sN, gS_sI, gS_sR, gS_sA, gS_sL, gS_sF, gS_sQ, gS_sG, gS_sN, gO_sI, gO_sR, gO_sA, gO_sL, gO_sF, gO_sQ, gO_sN, isR_ref, isR_null, isR_rf, isR2_ref, isR2_null, isR2_rf, am_k_int, am_k_ref, am_k_null, am_k_rf, am_k_none, am_k_long, am_k_double, rf_some, rf_none, KT_ret, KT_void, XP_ap, true_and, and_true, Nat.reduceAdd, Nat.reduceEqDiff, reduceIte, if_true, if_false, eq_self, true_or, or_true, forall_const, not_true_eq_false, not_false_eq_true]
  exact ⟨hx, hQ⟩
theorem f_scnext {v1 v2 : Value} (ho : gO D a = some (.inr (16, [v1, v2, va_rf nx]))) (hd : 1 ≤ d) (hQ : Q (.inl (some (va_rf nx))) (toH D)) : AC d 205 [.ref a] (toH D) Q := by
  refine AC.pos hd fun d' _ => ?_
  rw [e205 rfl]
  simp only [x205_0, x205_1, x205_4, gI_sI, gI_sR, gI_sA, gI_sL, gI_sF, gI_sQ, gI_sG, gI_sN, gR_sI, gR_sR, gR_sA, gR_sL, gR_sF, gR_sQ, gR_sG, gR_sN, gA_sI, gA_sR, gA_sA, gA_sL, gA_sF, gA_sQ, gA_sG, gA_sN, gL_sI, gL_sR, gL_sA, gL_sL, gL_sF, gL_sQ, gL_sG, gL_sN, gF_sI, gF_sR, gF_sA, gF_sL, gF_sF, gF_sQ, gF_sG, gF_sN, gQ_sI, gQ_sR, gQ_sA, gQ_sL, gQ_sF, gQ_sQ, gQ_sG, gQ_sN, gN_sI, gN_sR, gN_sA, gN_sL, gN_sF, gN_sQ, gN_sG, gN_sN, gS_sI, gS_sR, gS_sA, gS_sL, gS_sF, gS_sQ, gS_sG, gS_sN, gO_sI, gO_sR, gO_sA, gO_sL, gO_sF, gO_sQ, gO_sN, isR_ref, isR_null, isR_rf, isR2_ref, isR2_null, isR2_rf, am_k_int, am_k_ref, am_k_null, am_k_rf, am_k_none, am_k_long, am_k_double, rf_some, rf_none, KT_ret, KT_void, XP_ap, true_and, and_true, Nat.reduceAdd, Nat.reduceEqDiff, reduceIte, if_true, if_false, eq_self, true_or, or_true, forall_const, not_true_eq_false, not_false_eq_true]
  rw [fO_of ho rfl rfl]
  simp only [x205_0, x205_1, x205_4, gI_sI, gI_sR, gI_sA, gI_sL, gI_sF, gI_sQ, gI_sG, gI_sN, gR_sI, gR_sR, gR_sA, gR_sL, gR_sF, gR_sQ, gR_sG, gR_sN, gA_sI, gA_sR, gA_sA, gA_sL, gA_sF, gA_sQ, gA_sG, gA_sN, gL_sI, gL_sR, gL_sA, gL_sL, gL_sF, gL_sQ, gL_sG, gL_sN, gF_sI, gF_sR, gF_sA, gF_sL, gF_sF, gF_sQ, gF_sG, gF_sN, gQ_sI, gQ_sR, gQ_sA, gQ_sL, gQ_sF, gQ_sQ, gQ_sG, gQ_sN, gN_sI, gN_sR, gN_sA, gN_sL, gN_sF, gN_sQ, gN_sG, gN_sN, gS_sI, gS_sR, gS_sA, gS_sL, gS_sF, gS_sQ, gS_sG, gS_sN, gO_sI, gO_sR, gO_sA, gO_sL, gO_sF, gO_sQ, gO_sN, isR_ref, isR_null, isR_rf, isR2_ref, isR2_null, isR2_rf, am_k_int, am_k_ref, am_k_null, am_k_rf, am_k_none, am_k_long, am_k_double, rf_some, rf_none, KT_ret, KT_void, XP_ap, true_and, and_true, Nat.reduceAdd, Nat.reduceEqDiff, reduceIte, if_true, if_false, eq_self, true_or, or_true, forall_const, not_true_eq_false, not_false_eq_true]
  exact hQ
theorem f_sctype {v1 v2 : Value} (ho : gO D a = some (.inr (16, [v1, va_rf nx, v2]))) (hd : 1 ≤ d) (hQ : Q (.inl (some (va_rf nx))) (toH D)) : AC d 206 [.ref a] (toH D) Q := by
  refine AC.pos hd fun d' _ => ?_
  rw [e206 rfl]
  simp only [x206_0, x206_1, x206_4, gI_sI, gI_sR, gI_sA, gI_sL, gI_sF, gI_sQ, gI_sG, gI_sN, gR_sI, gR_sR, gR_sA, gR_sL, gR_sF, gR_sQ, gR_sG, gR_sN, gA_sI, gA_sR, gA_sA, gA_sL, gA_sF, gA_sQ, gA_sG, gA_sN, gL_sI, gL_sR, gL_sA, gL_sL, gL_sF, gL_sQ, gL_sG, gL_sN, gF_sI, gF_sR, gF_sA, gF_sL, gF_sF, gF_sQ, gF_sG, gF_sN, gQ_sI, gQ_sR, gQ_sA, gQ_sL, gQ_sF, gQ_sQ, gQ_sG, gQ_sN, gN_sI, gN_sR, gN_sA, gN_sL, gN_sF, gN_sQ, gN_sG, gN_sN, gS_sI, gS_sR, gS_sA, gS_sL, gS_sF, gS_sQ, gS_sG, gS_sN, gO_sI, gO_sR, gO_sA, gO_sL, gO_sF, gO_sQ, gO_sN, isR_ref, isR_null, isR_rf, isR2_ref, isR2_null, isR2_rf, am_k_int, am_k_ref, am_k_null, am_k_rf, am_k_none, am_k_long, am_k_double, rf_some, rf_none, KT_ret, KT_void, XP_ap, true_and, and_true, Nat.reduceAdd, Nat.reduceEqDiff, reduceIte, if_true, if_false, eq_self, true_or, or_true, forall_const, not_true_eq_false, not_false_eq_true]
  rw [fO_of ho rfl rfl]
  simp only [x206_0, x206_1, x206_4, gI_sI, gI_sR, gI_sA, gI_sL, gI_sF, gI_sQ, gI_sG, gI_sN, gR_sI, gR_sR, gR_sA, gR_sL, gR_sF, gR_sQ, gR_sG, gR_sN, gA_sI, gA_sR, gA_sA, gA_sL, gA_sF, gA_sQ, gA_sG, gA_sN, gL_sI, gL_sR, gL_sA, gL_sL, gL_sF, gL_sQ, gL_sG, gL_sN, gF_sI, gF_sR, gF_sA, gF_sL, gF_sF, gF_sQ, gF_sG, gF_sN, gQ_sI, gQ_sR, gQ_sA, gQ_sL, gQ_sF, gQ_sQ, gQ_sG, gQ_sN, gN_sI, gN_sR, gN_sA, gN_sL, gN_sF, gN_sQ, gN_sG, gN_sN, gS_sI, gS_sR, gS_sA, gS_sL, gS_sF, gS_sQ, gS_sG, gS_sN, gO_sI, gO_sR, gO_sA, gO_sL, gO_sF, gO_sQ, gO_sN, isR_ref, isR_null, isR_rf, isR2_ref, isR2_null, isR2_rf, am_k_int, am_k_ref, am_k_null, am_k_rf, am_k_none, am_k_long, am_k_double, rf_some, rf_none, KT_ret, KT_void, XP_ap, true_and, and_true, Nat.reduceAdd, Nat.reduceEqDiff, reduceIte, if_true, if_false, eq_self, true_or, or_true, forall_const, not_true_eq_false, not_false_eq_true]
  exact hQ
theorem f_scope (hd : 2 ≤ d) (ho : gO D a = some (.inr (16, [.int 0, .null, .null]))) (hx : am_fit .char (.int x)) (hQ : Q (.inl none) (toH (sG D a (.inr (16, [.int x, va_rf t, va_rf nx]))))) : AC d 203 [.ref a, .int x, va_rf t, va_rf nx] (toH D) Q := by
  refine AC.pos hd fun d' hd' => ?_
  rw [e203 rfl isR_rf isR_rf]
  simp only [x203_0, x203_1, x203_4, x203_5, x203_6, x203_9, x203_10, x203_11, x203_11a, x203_11n, x203_14, x203_15, x203_16, x203_16a, x203_16n, x203_19, gI_sI, gI_sR, gI_sA, gI_sL, gI_sF, gI_sQ, gI_sG, gI_sN, gR_sI, gR_sR, gR_sA, gR_sL, gR_sF, gR_sQ, gR_sG, gR_sN, gA_sI, gA_sR, gA_sA, gA_sL, gA_sF, gA_sQ, gA_sG, gA_sN, gL_sI, gL_sR, gL_sA, gL_sL, gL_sF, gL_sQ, gL_sG, gL_sN, gF_sI, gF_sR, gF_sA, gF_sL, gF_sF, gF_sQ, gF_sG, gF_sN, gQ_sI, gQ_sR, gQ_sA, gQ_sL, gQ_sF, gQ_sQ, gQ_sG, gQ_sN, gN_sI, gN_sR, gN_sA, gN_sL, gN_sF, gN_sQ, gN_sG, gN_sN, gS_sI, gS_sR, gS_sA, gS_sL, gS_sF, gS_sQ, gS_sG, gS_sN, gO_sI, gO_sR, gO_sA, gO_sL, gO_sF, gO_sQ, gO_sN, isR_ref, isR_null, isR_rf, isR2_ref, isR2_null, isR2_rf, am_k_int, am_k_ref, am_k_null, am_k_rf, am_k_none, am_k_long, am_k_double, rf_some, rf_none, KT_ret, KT_void, XP_ap, true_and, and_true, Nat.reduceAdd, Nat.reduceEqDiff, reduceIte, if_true, if_false, eq_self, true_or, or_true, forall_const, not_true_eq_false, not_false_eq_true]
  refine f_rec hd' ?_
  simp only [x203_0, x203_1, x203_4, x203_5, x203_6, x203_9, x203_10, x203_11, x203_11a, x203_11n, x203_14, x203_15, x203_16, x203_16a, x203_16n, x203_19, gI_sI, gI_sR, gI_sA, gI_sL, gI_sF, gI_sQ, gI_sG, gI_sN, gR_sI, gR_sR, gR_sA, gR_sL, gR_sF, gR_sQ, gR_sG, gR_sN, gA_sI, gA_sR, gA_sA, gA_sL, gA_sF, gA_sQ, gA_sG, gA_sN, gL_sI, gL_sR, gL_sA, gL_sL, gL_sF, gL_sQ, gL_sG, gL_sN, gF_sI, gF_sR, gF_sA, gF_sL, gF_sF, gF_sQ, gF_sG, gF_sN, gQ_sI, gQ_sR, gQ_sA, gQ_sL, gQ_sF, gQ_sQ, gQ_sG, gQ_sN, gN_sI, gN_sR, gN_sA, gN_sL, gN_sF, gN_sQ, gN_sG, gN_sN, gS_sI, gS_sR, gS_sA, gS_sL, gS_sF, gS_sQ, gS_sG, gS_sN, gO_sI, gO_sR, gO_sA, gO_sL, gO_sF, gO_sQ, gO_sN, isR_ref, isR_null, isR_rf, isR2_ref, isR2_null, isR2_rf, am_k_int, am_k_ref, am_k_null, am_k_rf, am_k_none, am_k_long, am_k_double, rf_some, rf_none, KT_ret, KT_void, XP_ap, true_and, and_true, Nat.reduceAdd, Nat.reduceEqDiff, reduceIte, if_true, if_false, eq_self, true_or, or_true, forall_const, not_true_eq_false, not_false_eq_true, pO, ho, gO_gg ho, sG_sG, List.set_cons_zero, List.set_cons_succ]
  exact ⟨hx, rfl, Nat.le_of_ble_eq_true rfl, rfl, Nat.le_of_ble_eq_true rfl, rfl, Nat.le_of_ble_eq_true rfl, hQ⟩
/-- a name is looked for -/
theorem f_find (hS : SC (gO D) B E r) (hc : c < 128) (hd : 2 ≤ d) (hcap : capok D 6) (h1 : ∀ a t nx, E.lookup c = some t → gO D a = some (.inr (16, [.int (i32 c), va_rf t, va_rf nx])) → 82 ≤ a → a < B → Q (.inl (some (.ref a))) (toH D)) (h0 : E.lookup c = none → Q (.inr (82 + gN D, 24)) (toH (sN D (.inr (24, [])) 6))) : AC d 51 [.int (i32 c), va_rf r] (toH D) Q := by
  refine AC.pos hd fun d' hd' => ?_
  rw [e51 isR_rf]
  have key : ∀ (E : List (Nat × Option Nat)) (r w : Option Nat), SC (gO D) B E r → (∀ a t nx, E.lookup c = some t → gO D a = some (.inr (16, [.int (i32 c), va_rf t, va_rf nx])) → 82 ≤ a → a < B → Q (.inl (some (.ref a))) (toH D)) → (E.lookup c = none → Q (.inr (82 + gN D, 24)) (toH (sN D (.inr (24, [])) 6))) → XW 51 d' Q 2 [some (.int (i32 c)), some (va_rf w), some (va_rf r)] [] (toH D) := by
    intro E
    induction E with
    | nil =>
      intro r w hS h1 h0
      have hS : r = none := hS
      rw [x51_2]
      simp only [x51_0, x51_1, x51_3, x51_3a, x51_6, x51_7, x51_10, x51_11, x51_14, x51_15, x51_18, x51_19, x51_22, x51_23, x51_23a, x51_26, x51_34, x51_35, gI_sI, gI_sR, gI_sA, gI_sL, gI_sF, gI_sQ, gI_sG, gI_sN, gR_sI, gR_sR, gR_sA, gR_sL, gR_sF, gR_sQ, gR_sG, gR_sN, gA_sI, gA_sR, gA_sA, gA_sL, gA_sF, gA_sQ, gA_sG, gA_sN, gL_sI, gL_sR, gL_sA, gL_sL, gL_sF, gL_sQ, gL_sG, gL_sN, gF_sI, gF_sR, gF_sA, gF_sL, gF_sF, gF_sQ, gF_sG, gF_sN, gQ_sI, gQ_sR, gQ_sA, gQ_sL, gQ_sF, gQ_sQ, gQ_sG, gQ_sN, gN_sI, gN_sR, gN_sA, gN_sL, gN_sF, gN_sQ, gN_sG, gN_sN, gS_sI, gS_sR, gS_sA, gS_sL, gS_sF, gS_sQ, gS_sG, gS_sN, gO_sI, gO_sR, gO_sA, gO_sL, gO_sF, gO_sQ, gO_sN, isR_ref, isR_null, isR_rf, isR2_ref, isR2_null, isR2_rf, am_k_int, am_k_ref, am_k_null, am_k_rf, am_k_none, am_k_long, am_k_double, rf_some, rf_none, KT_ret, KT_void, XP_ap, true_and, and_true, Nat.reduceAdd, Nat.reduceEqDiff, reduceIte, if_true, if_false, eq_self, true_or, or_true, forall_const, not_true_eq_false, not_false_eq_true]
      exact ⟨fun _ => ⟨fun z => absurd hS z, fun _ => ⟨hcap, h0 rfl⟩⟩, fun z => absurd hS z⟩
    | cons z E ih =>
      obtain ⟨c', t⟩ := z
      intro r w ⟨hc', a, nx, e1, e2, e3, e4, e5⟩ h1 h0
      subst e1
      rw [x51_2]
      simp only [x51_0, x51_1, x51_3, x51_3a, x51_6, x51_7, x51_10, x51_11, x51_14, x51_15, x51_18, x51_19, x51_22, x51_23, x51_23a, x51_26, x51_34, x51_35, gI_sI, gI_sR, gI_sA, gI_sL, gI_sF, gI_sQ, gI_sG, gI_sN, gR_sI, gR_sR, gR_sA, gR_sL, gR_sF, gR_sQ, gR_sG, gR_sN, gA_sI, gA_sR, gA_sA, gA_sL, gA_sF, gA_sQ, gA_sG, gA_sN, gL_sI, gL_sR, gL_sA, gL_sL, gL_sF, gL_sQ, gL_sG, gL_sN, gF_sI, gF_sR, gF_sA, gF_sL, gF_sF, gF_sQ, gF_sG, gF_sN, gQ_sI, gQ_sR, gQ_sA, gQ_sL, gQ_sF, gQ_sQ, gQ_sG, gQ_sN, gN_sI, gN_sR, gN_sA, gN_sL, gN_sF, gN_sQ, gN_sG, gN_sN, gS_sI, gS_sR, gS_sA, gS_sL, gS_sF, gS_sQ, gS_sG, gS_sN, gO_sI, gO_sR, gO_sA, gO_sL, gO_sF, gO_sQ, gO_sN, isR_ref, isR_null, isR_rf, isR2_ref, isR2_null, isR2_rf, am_k_int, am_k_ref, am_k_null, am_k_rf, am_k_none, am_k_long, am_k_double, rf_some, rf_none, KT_ret, KT_void, XP_ap, true_and, and_true, Nat.reduceAdd, Nat.reduceEqDiff, reduceIte, if_true, if_false, eq_self, true_or, or_true, forall_const, not_true_eq_false, not_false_eq_true]
      have hca : cO D a 16 := by unfold cO; rw [e4]
      refine ⟨fun z => by simp at z, fun _ => ⟨hca, f_scname e4 (i32_char c' hc').1 (by omega) ?_⟩⟩
      simp only [x51_0, x51_1, x51_3, x51_3a, x51_6, x51_7, x51_10, x51_11, x51_14, x51_15, x51_18, x51_19, x51_22, x51_23, x51_23a, x51_26, x51_34, x51_35, gI_sI, gI_sR, gI_sA, gI_sL, gI_sF, gI_sQ, gI_sG, gI_sN, gR_sI, gR_sR, gR_sA, gR_sL, gR_sF, gR_sQ, gR_sG, gR_sN, gA_sI, gA_sR, gA_sA, gA_sL, gA_sF, gA_sQ, gA_sG, gA_sN, gL_sI, gL_sR, gL_sA, gL_sL, gL_sF, gL_sQ, gL_sG, gL_sN, gF_sI, gF_sR, gF_sA, gF_sL, gF_sF, gF_sQ, gF_sG, gF_sN, gQ_sI, gQ_sR, gQ_sA, gQ_sL, gQ_sF, gQ_sQ, gQ_sG, gQ_sN, gN_sI, gN_sR, gN_sA, gN_sL, gN_sF, gN_sQ, gN_sG, gN_sN, gS_sI, gS_sR, gS_sA, gS_sL, gS_sF, gS_sQ, gS_sG, gS_sN, gO_sI, gO_sR, gO_sA, gO_sL, gO_sF, gO_sQ, gO_sN, isR_ref, isR_null, isR_rf, isR2_ref, isR2_null, isR2_rf, am_k_int, am_k_ref, am_k_null, am_k_rf, am_k_none, am_k_long, am_k_double, rf_some, rf_none, KT_ret, KT_void, XP_ap, true_and, and_true, Nat.reduceAdd, Nat.reduceEqDiff, reduceIte, if_true, if_false, eq_self, true_or, or_true, forall_const, not_true_eq_false, not_false_eq_true]
      rw [i32_eq (by omega) (by omega)]
      refine ⟨fun z => ?_, fun z => ⟨hca, f_scnext e4 (by omega) ?_⟩⟩
      · subst z
        refine ⟨fun _ => h1 a t nx ?_ e4 e2 e3, fun z => by simp at z⟩
        rw [List.lookup_cons]; simp
      · simp only [x51_0, x51_1, x51_3, x51_3a, x51_6, x51_7, x51_10, x51_11, x51_14, x51_15, x51_18, x51_19, x51_22, x51_23, x51_23a, x51_26, x51_34, x51_35, gI_sI, gI_sR, gI_sA, gI_sL, gI_sF, gI_sQ, gI_sG, gI_sN, gR_sI, gR_sR, gR_sA, gR_sL, gR_sF, gR_sQ, gR_sG, gR_sN, gA_sI, gA_sR, gA_sA, gA_sL, gA_sF, gA_sQ, gA_sG, gA_sN, gL_sI, gL_sR, gL_sA, gL_sL, gL_sF, gL_sQ, gL_sG, gL_sN, gF_sI, gF_sR, gF_sA, gF_sL, gF_sF, gF_sQ, gF_sG, gF_sN, gQ_sI, gQ_sR, gQ_sA, gQ_sL, gQ_sF, gQ_sQ, gQ_sG, gQ_sN, gN_sI, gN_sR, gN_sA, gN_sL, gN_sF, gN_sQ, gN_sG, gN_sN, gS_sI, gS_sR, gS_sA, gS_sL, gS_sF, gS_sQ, gS_sG, gS_sN, gO_sI, gO_sR, gO_sA, gO_sL, gO_sF, gO_sQ, gO_sN, isR_ref, isR_null, isR_rf, isR2_ref, isR2_null, isR2_rf, am_k_int, am_k_ref, am_k_null, am_k_rf, am_k_none, am_k_long, am_k_double, rf_some, rf_none, KT_ret, KT_void, XP_ap, true_and, and_true, Nat.reduceAdd, Nat.reduceEqDiff, reduceIte, if_true, if_false, eq_self, true_or, or_true, forall_const, not_true_eq_false, not_false_eq_true]
        have hl : ((c', t) :: E).lookup c = E.lookup c := by
          rw [List.lookup_cons]
          have : (c == c') = false := by simp; omega
          rw [this]
        exact ih nx w e5 (fun a t nx h => h1 a t nx (hl.trans h)) (fun h => h0 (hl.trans h))
  simp only [x51_0, x51_1, x51_3, x51_3a, x51_6, x51_7, x51_10, x51_11, x51_14, x51_15, x51_18, x51_19, x51_22, x51_23, x51_23a, x51_26, x51_34, x51_35, gI_sI, gI_sR, gI_sA, gI_sL, gI_sF, gI_sQ, gI_sG, gI_sN, gR_sI, gR_sR, gR_sA, gR_sL, gR_sF, gR_sQ, gR_sG, gR_sN, gA_sI, gA_sR, gA_sA, gA_sL, gA_sF, gA_sQ, gA_sG, gA_sN, gL_sI, gL_sR, gL_sA, gL_sL, gL_sF, gL_sQ, gL_sG, gL_sN, gF_sI, gF_sR, gF_sA, gF_sL, gF_sF, gF_sQ, gF_sG, gF_sN, gQ_sI, gQ_sR, gQ_sA, gQ_sL, gQ_sF, gQ_sQ, gQ_sG, gQ_sN, gN_sI, gN_sR, gN_sA, gN_sL, gN_sF, gN_sQ, gN_sG, gN_sN, gS_sI, gS_sR, gS_sA, gS_sL, gS_sF, gS_sQ, gS_sG, gS_sN, gO_sI, gO_sR, gO_sA, gO_sL, gO_sF, gO_sQ, gO_sN, isR_ref, isR_null, isR_rf, isR2_ref, isR2_null, isR2_rf, am_k_int, am_k_ref, am_k_null, am_k_rf, am_k_none, am_k_long, am_k_double, rf_some, rf_none, KT_ret, KT_void, XP_ap, true_and, and_true, Nat.reduceAdd, Nat.reduceEqDiff, reduceIte, if_true, if_false, eq_self, true_or, or_true, forall_const, not_true_eq_false, not_false_eq_true]
  exact key E r r hS h1 h0
theorem PX.imp {G : Nat → Option am_C} {A B a : Nat} {e : tE} (h : PX G A B e a) : ∃ (_ : Unit) (cv : Nat) (fs : List Value), G a = some (.inr (cv, fs)) ∧ am_imp 3 cv = true ∧ am_imp 4 cv = true ∧ am_imp 5 cv = true := by
  cases e with
  | var c => exact ⟨(), _, _, h.2.2, rfl, rfl, rfl⟩
  | pow x k =>
    cases x with
    | natCast v => exact ⟨(), _, _, h.2.2, rfl, rfl, rfl⟩
    | _ => exact h.elim
  | mul q r =>
    obtain ⟨_, _, b, c, h1, _⟩ := h
    exact ⟨(), _, _, h1, rfl, rfl, rfl⟩
  | _ => exact h.elim
/-- the names of a pattern come to those around -/
theorem f_names : ∀ (q : tE) (b B A : Nat) (E : List (Nat × Option Nat)) (r : Option Nat) (d : Nat) (D : sS) (Q : am_O → am_H → Prop) (j : Nat), PC q → PX (gO D) A B q b → B ≤ 82 + gN D → SC (gO D) (82 + gN D) E r → RM D ((pv q).length + j) → 1 ≤ j → 3 * rl q + 4 ≤ d → (∀ D' r', FP D D' → gN D' ≤ gN D + (pv q).length → SC (gO D') (82 + gN D') ((pv q).reverse.map (fun c => (c, none)) ++ E) r' → Q (.inl (some (va_rf r'))) (toH D')) → ∀ ci fs, gO D b = some (.inr (ci, fs)) → AC d (am_dp 3 ci) [.ref b, va_rf r] (toH D) Q := by
  intro q
  induction q with
  | var c =>
    intro b B A E r d D Q j hP hX hB hS hR hj hd hQ ci fs hb
    obtain ⟨_, _, hx⟩ := hX
    rw [hx] at hb
    cases hb
    show AC d 189 _ _ _
    refine AC.pos hd fun d' hd' => ?_
    rw [e189 rfl isR_rf]
    simp only [x189_0, x189_1, x189_4, x189_7, x189_8, x189_11, x189_14, x189_14f, x189_15, x189_16, x189_19, x189_20, x189_21, x189_24, gI_sI, gI_sR, gI_sA, gI_sL, gI_sF, gI_sQ, gI_sG, gI_sN, gR_sI, gR_sR, gR_sA, gR_sL, gR_sF, gR_sQ, gR_sG, gR_sN, gA_sI, gA_sR, gA_sA, gA_sL, gA_sF, gA_sQ, gA_sG, gA_sN, gL_sI, gL_sR, gL_sA, gL_sL, gL_sF, gL_sQ, gL_sG, gL_sN, gF_sI, gF_sR, gF_sA, gF_sL, gF_sF, gF_sQ, gF_sG, gF_sN, gQ_sI, gQ_sR, gQ_sA, gQ_sL, gQ_sF, gQ_sQ, gQ_sG, gQ_sN, gN_sI, gN_sR, gN_sA, gN_sL, gN_sF, gN_sQ, gN_sG, gN_sN, gS_sI, gS_sR, gS_sA, gS_sL, gS_sF, gS_sQ, gS_sG, gS_sN, gO_sI, gO_sR, gO_sA, gO_sL, gO_sF, gO_sQ, gO_sN, isR_ref, isR_null, isR_rf, isR2_ref, isR2_null, isR2_rf, am_k_int, am_k_ref, am_k_null, am_k_rf, am_k_none, am_k_long, am_k_double, rf_some, rf_none, KT_ret, KT_void, XP_ap, true_and, and_true, Nat.reduceAdd, Nat.reduceEqDiff, reduceIte, if_true, if_false, eq_self, true_or, or_true, forall_const, not_true_eq_false, not_false_eq_true]
    rw [fO_of hx rfl rfl]
    simp only [x189_0, x189_1, x189_4, x189_7, x189_8, x189_11, x189_14, x189_14f, x189_15, x189_16, x189_19, x189_20, x189_21, x189_24, gI_sI, gI_sR, gI_sA, gI_sL, gI_sF, gI_sQ, gI_sG, gI_sN, gR_sI, gR_sR, gR_sA, gR_sL, gR_sF, gR_sQ, gR_sG, gR_sN, gA_sI, gA_sR, gA_sA, gA_sL, gA_sF, gA_sQ, gA_sG, gA_sN, gL_sI, gL_sR, gL_sA, gL_sL, gL_sF, gL_sQ, gL_sG, gL_sN, gF_sI, gF_sR, gF_sA, gF_sL, gF_sF, gF_sQ, gF_sG, gF_sN, gQ_sI, gQ_sR, gQ_sA, gQ_sL, gQ_sF, gQ_sQ, gQ_sG, gQ_sN, gN_sI, gN_sR, gN_sA, gN_sL, gN_sF, gN_sQ, gN_sG, gN_sN, gS_sI, gS_sR, gS_sA, gS_sL, gS_sF, gS_sQ, gS_sG, gS_sN, gO_sI, gO_sR, gO_sA, gO_sL, gO_sF, gO_sQ, gO_sN, isR_ref, isR_null, isR_rf, isR2_ref, isR2_null, isR2_rf, am_k_int, am_k_ref, am_k_null, am_k_rf, am_k_none, am_k_long, am_k_double, rf_some, rf_none, KT_ret, KT_void, XP_ap, true_and, and_true, Nat.reduceAdd, Nat.reduceEqDiff, reduceIte, if_true, if_false, eq_self, true_or, or_true, forall_const, not_true_eq_false, not_false_eq_true]
    have e0 : (i32 c = 0) ↔ (show Nat from c) = 0 := i32_eq (a := c) (b := 0) (by rcases hP with h | h; exact Nat.lt_of_le_of_lt (Nat.le_of_eq h) (by decide); exact Nat.lt_trans h.2 (by decide)) (by omega)
    rw [e0]
    have hRm : RM D 1 := ⟨by have := hR.1; omega, by have := hR.2; omega⟩
    refine ⟨fun z => ⟨hRm.cap (by omega) (by omega), ?_⟩, fun z => ?_⟩
    · have hl : lc c := hP.resolve_left z
      have hob : gO (sN D (Sum.inr (16, [Value.int 0, Value.null, Value.null])) 3) b = gO D b := by rw [gO_sN, if_neg (by omega)]
      rw [fO_of (hob.trans hx) rfl rfl]
      simp only [x189_0, x189_1, x189_4, x189_7, x189_8, x189_11, x189_14, x189_14f, x189_15, x189_16, x189_19, x189_20, x189_21, x189_24, gI_sI, gI_sR, gI_sA, gI_sL, gI_sF, gI_sQ, gI_sG, gI_sN, gR_sI, gR_sR, gR_sA, gR_sL, gR_sF, gR_sQ, gR_sG, gR_sN, gA_sI, gA_sR, gA_sA, gA_sL, gA_sF, gA_sQ, gA_sG, gA_sN, gL_sI, gL_sR, gL_sA, gL_sL, gL_sF, gL_sQ, gL_sG, gL_sN, gF_sI, gF_sR, gF_sA, gF_sL, gF_sF, gF_sQ, gF_sG, gF_sN, gQ_sI, gQ_sR, gQ_sA, gQ_sL, gQ_sF, gQ_sQ, gQ_sG, gQ_sN, gN_sI, gN_sR, gN_sA, gN_sL, gN_sF, gN_sQ, gN_sG, gN_sN, gS_sI, gS_sR, gS_sA, gS_sL, gS_sF, gS_sQ, gS_sG, gS_sN, gO_sI, gO_sR, gO_sA, gO_sL, gO_sF, gO_sQ, gO_sN, isR_ref, isR_null, isR_rf, isR2_ref, isR2_null, isR2_rf, am_k_int, am_k_ref, am_k_null, am_k_rf, am_k_none, am_k_long, am_k_double, rf_some, rf_none, KT_ret, KT_void, XP_ap, true_and, and_true, Nat.reduceAdd, Nat.reduceEqDiff, reduceIte, if_true, if_false, eq_self, true_or, or_true, forall_const, not_true_eq_false, not_false_eq_true]
      show AC d' 203 [.ref (82 + gN D), .int (i32 c), va_rf none, va_rf r] _ _
      refine f_scope (by omega) gO_new (i32_char c (Nat.lt_trans hl.2 (by decide))) ?_
      rw [sG_sN]
      simp only [x189_0, x189_1, x189_4, x189_7, x189_8, x189_11, x189_14, x189_14f, x189_15, x189_16, x189_19, x189_20, x189_21, x189_24, gI_sI, gI_sR, gI_sA, gI_sL, gI_sF, gI_sQ, gI_sG, gI_sN, gR_sI, gR_sR, gR_sA, gR_sL, gR_sF, gR_sQ, gR_sG, gR_sN, gA_sI, gA_sR, gA_sA, gA_sL, gA_sF, gA_sQ, gA_sG, gA_sN, gL_sI, gL_sR, gL_sA, gL_sL, gL_sF, gL_sQ, gL_sG, gL_sN, gF_sI, gF_sR, gF_sA, gF_sL, gF_sF, gF_sQ, gF_sG, gF_sN, gQ_sI, gQ_sR, gQ_sA, gQ_sL, gQ_sF, gQ_sQ, gQ_sG, gQ_sN, gN_sI, gN_sR, gN_sA, gN_sL, gN_sF, gN_sQ, gN_sG, gN_sN, gS_sI, gS_sR, gS_sA, gS_sL, gS_sF, gS_sQ, gS_sG, gS_sN, gO_sI, gO_sR, gO_sA, gO_sL, gO_sF, gO_sQ, gO_sN, isR_ref, isR_null, isR_rf, isR2_ref, isR2_null, isR2_rf, am_k_int, am_k_ref, am_k_null, am_k_rf, am_k_none, am_k_long, am_k_double, rf_some, rf_none, KT_ret, KT_void, XP_ap, true_and, and_true, Nat.reduceAdd, Nat.reduceEqDiff, reduceIte, if_true, if_false, eq_self, true_or, or_true, forall_const, not_true_eq_false, not_false_eq_true]
      have hpv : pv (.var c) = [c] := if_neg z
      have hf : FP D (sN D (Sum.inr (16, [Value.int (i32 c), va_rf none, va_rf r])) 3) := FP.refl.new (by omega)
      refine hQ _ (some (82 + gN D)) hf (by rw [hpv]; exact Nat.le_refl _) ?_
      rw [hpv]
      exact ⟨Nat.lt_trans hl.2 (by decide), 82 + gN D, r, rfl, by omega, by rw [gN_sN]; omega, gO_new, hS.up hf⟩
    · have hpv : pv (.var c) = [] := if_pos z
      refine hQ D r FP.refl (by omega) ?_
      rw [hpv]
      exact hS
  | pow a k ih =>
    intro b B A E r d D Q j hP hX hB hS hR hj hd hQ ci fs hb
    cases a with
    | natCast v =>
      obtain ⟨_, _, hx⟩ := hX
      rw [hx] at hb
      cases hb
      show AC d 185 _ _ _
      refine AC.pos hd fun d' hd' => ?_
      rw [e185 rfl isR_rf]
      simp only [x185_0, x185_1, gI_sI, gI_sR, gI_sA, gI_sL, gI_sF, gI_sQ, gI_sG, gI_sN, gR_sI, gR_sR, gR_sA, gR_sL, gR_sF, gR_sQ, gR_sG, gR_sN, gA_sI, gA_sR, gA_sA, gA_sL, gA_sF, gA_sQ, gA_sG, gA_sN, gL_sI, gL_sR, gL_sA, gL_sL, gL_sF, gL_sQ, gL_sG, gL_sN, gF_sI, gF_sR, gF_sA, gF_sL, gF_sF, gF_sQ, gF_sG, gF_sN, gQ_sI, gQ_sR, gQ_sA, gQ_sL, gQ_sF, gQ_sQ, gQ_sG, gQ_sN, gN_sI, gN_sR, gN_sA, gN_sL, gN_sF, gN_sQ, gN_sG, gN_sN, gS_sI, gS_sR, gS_sA, gS_sL, gS_sF, gS_sQ, gS_sG, gS_sN, gO_sI, gO_sR, gO_sA, gO_sL, gO_sF, gO_sQ, gO_sN, isR_ref, isR_null, isR_rf, isR2_ref, isR2_null, isR2_rf, am_k_int, am_k_ref, am_k_null, am_k_rf, am_k_none, am_k_long, am_k_double, rf_some, rf_none, KT_ret, KT_void, XP_ap, true_and, and_true, Nat.reduceAdd, Nat.reduceEqDiff, reduceIte, if_true, if_false, eq_self, true_or, or_true, forall_const, not_true_eq_false, not_false_eq_true]
      exact hQ D r FP.refl (by omega) hS
    | _ => exact hP.elim
  | mul q1 q2 ih1 ih2 =>
    intro b B A E r d D Q j hP hX hB hS hR hj hd hQ ci fs hb
    obtain ⟨_, _, c1, c2, hx, hX1, hX2⟩ := hX
    rw [hx] at hb
    cases hb
    have hd : 3 * (rl q1 + rl q2 + 1) + 4 ≤ d := hd
    have hpv : pv (.mul q1 q2) = pv q1 ++ pv q2 := rfl
    have hlen : (pv (.mul q1 q2)).length = (pv q1).length + (pv q2).length := by rw [hpv, List.length_append]
    show AC d 193 _ _ _
    refine AC.pos hd fun d' hd' => ?_
    rw [e193 rfl isR_rf]
    simp only [x193_0, x193_1, x193_4, x193_5, x193_8, x193_9, x193_14, x193_19, gI_sI, gI_sR, gI_sA, gI_sL, gI_sF, gI_sQ, gI_sG, gI_sN, gR_sI, gR_sR, gR_sA, gR_sL, gR_sF, gR_sQ, gR_sG, gR_sN, gA_sI, gA_sR, gA_sA, gA_sL, gA_sF, gA_sQ, gA_sG, gA_sN, gL_sI, gL_sR, gL_sA, gL_sL, gL_sF, gL_sQ, gL_sG, gL_sN, gF_sI, gF_sR, gF_sA, gF_sL, gF_sF, gF_sQ, gF_sG, gF_sN, gQ_sI, gQ_sR, gQ_sA, gQ_sL, gQ_sF, gQ_sQ, gQ_sG, gQ_sN, gN_sI, gN_sR, gN_sA, gN_sL, gN_sF, gN_sQ, gN_sG, gN_sN, gS_sI, gS_sR, gS_sA, gS_sL, gS_sF, gS_sQ, gS_sG, gS_sN, gO_sI, gO_sR, gO_sA, gO_sL, gO_sF, gO_sQ, gO_sN, isR_ref, isR_null, isR_rf, isR2_ref, isR2_null, isR2_rf, am_k_int, am_k_ref, am_k_null, am_k_rf, am_k_none, am_k_long, am_k_double, rf_some, rf_none, KT_ret, KT_void, XP_ap, true_and, and_true, Nat.reduceAdd, Nat.reduceEqDiff, reduceIte, if_true, if_false, eq_self, true_or, or_true, forall_const, not_true_eq_false, not_false_eq_true]
    rw [fO_of hx rfl rfl]
    simp only [x193_0, x193_1, x193_4, x193_5, x193_8, x193_9, x193_14, x193_19, gI_sI, gI_sR, gI_sA, gI_sL, gI_sF, gI_sQ, gI_sG, gI_sN, gR_sI, gR_sR, gR_sA, gR_sL, gR_sF, gR_sQ, gR_sG, gR_sN, gA_sI, gA_sR, gA_sA, gA_sL, gA_sF, gA_sQ, gA_sG, gA_sN, gL_sI, gL_sR, gL_sA, gL_sL, gL_sF, gL_sQ, gL_sG, gL_sN, gF_sI, gF_sR, gF_sA, gF_sL, gF_sF, gF_sQ, gF_sG, gF_sN, gQ_sI, gQ_sR, gQ_sA, gQ_sL, gQ_sF, gQ_sQ, gQ_sG, gQ_sN, gN_sI, gN_sR, gN_sA, gN_sL, gN_sF, gN_sQ, gN_sG, gN_sN, gS_sI, gS_sR, gS_sA, gS_sL, gS_sF, gS_sQ, gS_sG, gS_sN, gO_sI, gO_sR, gO_sA, gO_sL, gO_sF, gO_sQ, gO_sN, isR_ref, isR_null, isR_rf, isR2_ref, isR2_null, isR2_rf, am_k_int, am_k_ref, am_k_null, am_k_rf, am_k_none, am_k_long, am_k_double, rf_some, rf_none, KT_ret, KT_void, XP_ap, true_and, and_true, Nat.reduceAdd, Nat.reduceEqDiff, reduceIte, if_true, if_false, eq_self, true_or, or_true, forall_const, not_true_eq_false, not_false_eq_true]
    rw [fO_of hx rfl rfl]
    simp only [x193_0, x193_1, x193_4, x193_5, x193_8, x193_9, x193_14, x193_19, gI_sI, gI_sR, gI_sA, gI_sL, gI_sF, gI_sQ, gI_sG, gI_sN, gR_sI, gR_sR, gR_sA, gR_sL, gR_sF, gR_sQ, gR_sG, gR_sN, gA_sI, gA_sR, gA_sA, gA_sL, gA_sF, gA_sQ, gA_sG, gA_sN, gL_sI, gL_sR, gL_sA, gL_sL, gL_sF, gL_sQ, gL_sG, gL_sN, gF_sI, gF_sR, gF_sA, gF_sL, gF_sF, gF_sQ, gF_sG, gF_sN, gQ_sI, gQ_sR, gQ_sA, gQ_sL, gQ_sF, gQ_sQ, gQ_sG, gQ_sN, gN_sI, gN_sR, gN_sA, gN_sL, gN_sF, gN_sQ, gN_sG, gN_sN, gS_sI, gS_sR, gS_sA, gS_sL, gS_sF, gS_sQ, gS_sG, gS_sN, gO_sI, gO_sR, gO_sA, gO_sL, gO_sF, gO_sQ, gO_sN, isR_ref, isR_null, isR_rf, isR2_ref, isR2_null, isR2_rf, am_k_int, am_k_ref, am_k_null, am_k_rf, am_k_none, am_k_long, am_k_double, rf_some, rf_none, KT_ret, KT_void, XP_ap, true_and, and_true, Nat.reduceAdd, Nat.reduceEqDiff, reduceIte, if_true, if_false, eq_self, true_or, or_true, forall_const, not_true_eq_false, not_false_eq_true]
    obtain ⟨g1, g2, g3, k1⟩ := hX1.imp
    obtain ⟨l1, l2, l3, k2⟩ := hX2.imp
    rw [cF_of k1.1 k1.2.1]
    refine ih1 c1 B A E r d' D _ ((pv q2).length + j) hP.1 hX1 hB hS ⟨by have := hR.1; omega, by have := hR.2; omega⟩ (by omega) (by omega) (fun D1 r1 F1 n1 S1 => ?_) _ _ k1.1
    simp only [x193_0, x193_1, x193_4, x193_5, x193_8, x193_9, x193_14, x193_19, gI_sI, gI_sR, gI_sA, gI_sL, gI_sF, gI_sQ, gI_sG, gI_sN, gR_sI, gR_sR, gR_sA, gR_sL, gR_sF, gR_sQ, gR_sG, gR_sN, gA_sI, gA_sR, gA_sA, gA_sL, gA_sF, gA_sQ, gA_sG, gA_sN, gL_sI, gL_sR, gL_sA, gL_sL, gL_sF, gL_sQ, gL_sG, gL_sN, gF_sI, gF_sR, gF_sA, gF_sL, gF_sF, gF_sQ, gF_sG, gF_sN, gQ_sI, gQ_sR, gQ_sA, gQ_sL, gQ_sF, gQ_sQ, gQ_sG, gQ_sN, gN_sI, gN_sR, gN_sA, gN_sL, gN_sF, gN_sQ, gN_sG, gN_sN, gS_sI, gS_sR, gS_sA, gS_sL, gS_sF, gS_sQ, gS_sG, gS_sN, gO_sI, gO_sR, gO_sA, gO_sL, gO_sF, gO_sQ, gO_sN, isR_ref, isR_null, isR_rf, isR2_ref, isR2_null, isR2_rf, am_k_int, am_k_ref, am_k_null, am_k_rf, am_k_none, am_k_long, am_k_double, rf_some, rf_none, KT_ret, KT_void, XP_ap, true_and, and_true, Nat.reduceAdd, Nat.reduceEqDiff, reduceIte, if_true, if_false, eq_self, true_or, or_true, forall_const, not_true_eq_false, not_false_eq_true]
    have k2' : gO D1 c2 = some (.inr (l2, l3)) := (F1.obj (by have := hX2.root.2.1; omega)).trans k2.1
    rw [cF_of k2' k2.2.1]
    have hX2' : PX (gO D1) A B q2 c2 := PX.mono (fun b _ hb => F1.obj (by omega)) (Nat.le_refl _) (Nat.le_refl _) _ _ hX2
    have hN := F1.2.2.2.2.2.2.2.1
    refine ih2 c2 B A _ r1 d' D1 _ j hP.2 hX2' (by omega) S1 (hR.go F1 (by omega)) hj (by omega) (fun D2 r2 F2 n2 S2 => ?_) _ _ k2'
    simp only [x193_0, x193_1, x193_4, x193_5, x193_8, x193_9, x193_14, x193_19, gI_sI, gI_sR, gI_sA, gI_sL, gI_sF, gI_sQ, gI_sG, gI_sN, gR_sI, gR_sR, gR_sA, gR_sL, gR_sF, gR_sQ, gR_sG, gR_sN, gA_sI, gA_sR, gA_sA, gA_sL, gA_sF, gA_sQ, gA_sG, gA_sN, gL_sI, gL_sR, gL_sA, gL_sL, gL_sF, gL_sQ, gL_sG, gL_sN, gF_sI, gF_sR, gF_sA, gF_sL, gF_sF, gF_sQ, gF_sG, gF_sN, gQ_sI, gQ_sR, gQ_sA, gQ_sL, gQ_sF, gQ_sQ, gQ_sG, gQ_sN, gN_sI, gN_sR, gN_sA, gN_sL, gN_sF, gN_sQ, gN_sG, gN_sN, gS_sI, gS_sR, gS_sA, gS_sL, gS_sF, gS_sQ, gS_sG, gS_sN, gO_sI, gO_sR, gO_sA, gO_sL, gO_sF, gO_sQ, gO_sN, isR_ref, isR_null, isR_rf, isR2_ref, isR2_null, isR2_rf, am_k_int, am_k_ref, am_k_null, am_k_rf, am_k_none, am_k_long, am_k_double, rf_some, rf_none, KT_ret, KT_void, XP_ap, true_and, and_true, Nat.reduceAdd, Nat.reduceEqDiff, reduceIte, if_true, if_false, eq_self, true_or, or_true, forall_const, not_true_eq_false, not_false_eq_true]
    refine hQ D2 r2 (F1.trans F2) (by omega) ?_
    rw [hpv, List.reverse_append, List.map_append, List.append_assoc]
    exact S2
  | _ => intro b B A E r d D Q j hP; exact hP.elim
end NA
