/-! FunDesk, reading: cases -/
set_option maxRecDepth 100000
section RJ
variable {d : Nat} {D : sS} {Q : am_O → am_H → Prop} {tx : Nat → Int32} {n p dep f : Nat} {bn : Int32} {acc : tE} {r : Option (tE × Nat × Int32)}
theorem fO_of {a ci k : Nat} {fs : List Value} {v : Value} {K : Value → Prop} (h : gO D a = some (.inr (ci, fs))) (hl : fs.length = am_nf ci) (hv : fs[k]? = some v) : fO D a ci k K ↔ K v := by
  unfold fO
  rw [h]
  dsimp only
  rw [hv]
  exact ⟨fun z => z.2.2, fun z => ⟨rfl, hl, z⟩⟩
theorem pO_of {a ci k : Nat} {fs : List Value} {v : Value} {K : sS → Prop} (h : gO D a = some (.inr (ci, fs))) (hl : fs.length = am_nf ci) (hv : k < fs.length) : pO D a ci k v K ↔ K (sG D a (.inr (ci, fs.set k v))) := by
  unfold pO
  rw [h]
  dsimp only
  exact ⟨fun z => z.2.2.2, fun z => ⟨rfl, hl, hv, z⟩⟩
theorem wR_of {a κ m j : Nat} {g : Nat → Value} {v : Value} {K : sS → Prop} (h : gO D a = some (.inl (κ, m, g))) (hκ : 5 ≤ κ ∧ κ < 11) (hj : j < m) (hm : m < 1000) (hv : kO D κ v) : wR D a (i32 j) v K ↔ K (sG D a (.inl (κ, m, updV g j v))) := by
  unfold wR
  rw [h]
  dsimp only
  rw [i32_in (by omega), i32_nat (by omega)]
  exact ⟨fun z => z.2.2.2, fun z => ⟨hκ, hv, hj, z⟩⟩
theorem isRec_hi {a : Nat} (h : 82 ≤ a) : isRec a = false := by
  unfold isRec
  rw [decide_eq_false (by omega)]
  rfl
theorem kO_of {κ b cv : Nat} {fs : List Value} (hb : 82 ≤ b) (h : gO D b = some (.inr (cv, fs))) (hi : am_into κ cv = true) : kO D κ (.ref b) := by
  refine .inr ⟨b, cv, fs, rfl, ?_, hi⟩
  unfold gO at h
  rw [isRec_hi hb] at h
  show (if isRec b = true then tC D b else gG D b) = _
  rw [isRec_hi hb]
  exact h
theorem PX.root {G : Nat → Option am_C} {A B a : Nat} {e : tE} (h : PX G A B e a) : A ≤ a ∧ a < B ∧ ∃ cv fs, G a = some (.inr (cv, fs)) ∧ am_into 7 cv = true := by
  unfold PX at h
  split at h
  · exact ⟨h.1, h.2.1, _, _, h.2.2, rfl⟩
  · exact ⟨h.1, h.2.1, _, _, h.2.2, rfl⟩
  · obtain ⟨h1, h2, b, c, h3, _⟩ := h; exact ⟨h1, h2, _, _, h3, rfl⟩
  · exact h.elim
theorem EX.root {G : Nat → Option am_C} {A B a : Nat} {e : tE} (h : EX G A B e none a) : A ≤ a ∧ a < B ∧ ∃ cv fs, G a = some (.inr (cv, fs)) ∧ am_into 10 cv = true := by
  unfold EX at h
  split at h <;> first | exact h.elim | (obtain ⟨h1, h2, h3⟩ := h) | skip
  all_goals first | exact ⟨h1, h2, _, _, h3, rfl⟩ | (obtain ⟨b, h3, _⟩ := h3; exact ⟨h1, h2, _, _, h3, rfl⟩) | (obtain ⟨b, c, h3, _⟩ := h3; exact ⟨h1, h2, _, _, h3, rfl⟩) | (obtain ⟨b, c, e, h3, _⟩ := h3; exact ⟨h1, h2, _, _, h3, rfl⟩) | (obtain ⟨b, c, e, e1, e2, e3, h3, _⟩ := h3; exact ⟨h1, h2, _, _, h3, rfl⟩) | contradiction
theorem f_case {a b : Nat} (hd : 1 ≤ d) (hR : RM D 2) (ha : a < 82 + gN D) (ho : gO D a = some (.inr (10, [.null, .null, .null, .int 0]))) (hQ : ∀ D', gN D' = gN D + 2 → gS D' = gS D + 10 → (∀ q, gI D' q = gI D q) → gR D' = gR D ∧ gA D' = gA D ∧ gL D' = gL D ∧ gF D' = gF D ∧ gQ D' = gQ D → (∀ c, c < 82 + gN D → ¬ c = a → gG D' c = gG D c) → gO D' a = some (.inr (10, [.ref b, .ref (82 + gN D), .ref (82 + gN D + 1), .int 0])) → gO D' (82 + gN D) = some (.inl (7, 5, fun _ => .null)) → gO D' (82 + gN D + 1) = some (.inl (10, 5, fun _ => .null)) → Q (.inl none) (toH D')) : AC d 179 [.ref a, .ref b] (toH D) Q := by
  refine AC.pos hd fun d' hd' => ?_
  rw [e179 rfl rfl]
  simp only [x179_0, x179_1, x179_4, x179_5, x179_6, x179_9, x179_9a, x179_9n, x179_12, x179_13, x179_14, x179_17, x179_17a, x179_17n, x179_20, x179_21, x179_22, x179_22a, x179_22n, x179_25, gI_sI, gI_sR, gI_sA, gI_sL, gI_sF, gI_sQ, gI_sG, gI_sN, gR_sI, gR_sR, gR_sA, gR_sL, gR_sF, gR_sQ, gR_sG, gR_sN, gA_sI, gA_sR, gA_sA, gA_sL, gA_sF, gA_sQ, gA_sG, gA_sN, gL_sI, gL_sR, gL_sA, gL_sL, gL_sF, gL_sQ, gL_sG, gL_sN, gF_sI, gF_sR, gF_sA, gF_sL, gF_sF, gF_sQ, gF_sG, gF_sN, gQ_sI, gQ_sR, gQ_sA, gQ_sL, gQ_sF, gQ_sQ, gQ_sG, gQ_sN, gN_sI, gN_sR, gN_sA, gN_sL, gN_sF, gN_sQ, gN_sG, gN_sN, gS_sI, gS_sR, gS_sA, gS_sL, gS_sF, gS_sQ, gS_sG, gS_sN, gO_sI, gO_sR, gO_sA, gO_sL, gO_sF, gO_sQ, gO_sN, isR_ref, isR_null, isR_rf, isR2_ref, isR2_null, isR2_rf, am_k_int, am_k_ref, am_k_null, am_k_rf, am_k_none, am_k_long, am_k_double, rf_some, rf_none, KT_ret, KT_void, XP_ap, true_and, and_true, Nat.reduceAdd, Nat.reduceEqDiff, reduceIte, if_true, if_false, eq_self, true_or, or_true, forall_const, not_true_eq_false, not_false_eq_true]
  refine ⟨hR.cap (by omega) (by omega), ?_⟩
  have o1 : gO (sN D (.inl (7, 5, fun _ => .null)) 5) a = some (.inr (10, [.null, .null, .null, .int 0])) := by rw [gO_sN, if_neg (by omega)]; exact ho
  rw [pO_of (k := 1) o1 rfl (by decide)]
  simp only [x179_0, x179_1, x179_4, x179_5, x179_6, x179_9, x179_9a, x179_9n, x179_12, x179_13, x179_14, x179_17, x179_17a, x179_17n, x179_20, x179_21, x179_22, x179_22a, x179_22n, x179_25, gI_sI, gI_sR, gI_sA, gI_sL, gI_sF, gI_sQ, gI_sG, gI_sN, gR_sI, gR_sR, gR_sA, gR_sL, gR_sF, gR_sQ, gR_sG, gR_sN, gA_sI, gA_sR, gA_sA, gA_sL, gA_sF, gA_sQ, gA_sG, gA_sN, gL_sI, gL_sR, gL_sA, gL_sL, gL_sF, gL_sQ, gL_sG, gL_sN, gF_sI, gF_sR, gF_sA, gF_sL, gF_sF, gF_sQ, gF_sG, gF_sN, gQ_sI, gQ_sR, gQ_sA, gQ_sL, gQ_sF, gQ_sQ, gQ_sG, gQ_sN, gN_sI, gN_sR, gN_sA, gN_sL, gN_sF, gN_sQ, gN_sG, gN_sN, gS_sI, gS_sR, gS_sA, gS_sL, gS_sF, gS_sQ, gS_sG, gS_sN, gO_sI, gO_sR, gO_sA, gO_sL, gO_sF, gO_sQ, gO_sN, isR_ref, isR_null, isR_rf, isR2_ref, isR2_null, isR2_rf, am_k_int, am_k_ref, am_k_null, am_k_rf, am_k_none, am_k_long, am_k_double, rf_some, rf_none, KT_ret, KT_void, XP_ap, true_and, and_true, Nat.reduceAdd, Nat.reduceEqDiff, reduceIte, if_true, if_false, eq_self, true_or, or_true, forall_const, not_true_eq_false, not_false_eq_true, List.set_cons_zero, List.set_cons_succ]
  refine ⟨⟨by have := hR.1; rw [gN_sG, gN_sN]; unfold am_capC; omega, by have := hR.2; rw [gS_sG, gS_sN]; unfold am_capS; omega⟩, ?_⟩
  generalize hD2 : sG (sN D (.inl (7, 5, fun _ => .null)) 5) a (.inr (10, [.null, .ref (82 + gN D), .null, .int 0])) = D2
  have n2 : gN D2 = gN D + 1 := by rw [← hD2]; rfl
  have o2 : gO D2 a = some (.inr (10, [.null, .ref (82 + gN D), .null, .int 0])) := by rw [← hD2]; exact gO_gg o1
  have o3 : gO (sN D2 (.inl (10, 5, fun _ => .null)) 5) a = some (.inr (10, [.null, .ref (82 + gN D), .null, .int 0])) := by rw [gO_sN, if_neg (by omega)]; exact o2
  rw [pO_of (k := 2) o3 rfl (Nat.le_of_ble_eq_true rfl)]
  simp only [x179_0, x179_1, x179_4, x179_5, x179_6, x179_9, x179_9a, x179_9n, x179_12, x179_13, x179_14, x179_17, x179_17a, x179_17n, x179_20, x179_21, x179_22, x179_22a, x179_22n, x179_25, gI_sI, gI_sR, gI_sA, gI_sL, gI_sF, gI_sQ, gI_sG, gI_sN, gR_sI, gR_sR, gR_sA, gR_sL, gR_sF, gR_sQ, gR_sG, gR_sN, gA_sI, gA_sR, gA_sA, gA_sL, gA_sF, gA_sQ, gA_sG, gA_sN, gL_sI, gL_sR, gL_sA, gL_sL, gL_sF, gL_sQ, gL_sG, gL_sN, gF_sI, gF_sR, gF_sA, gF_sL, gF_sF, gF_sQ, gF_sG, gF_sN, gQ_sI, gQ_sR, gQ_sA, gQ_sL, gQ_sF, gQ_sQ, gQ_sG, gQ_sN, gN_sI, gN_sR, gN_sA, gN_sL, gN_sF, gN_sQ, gN_sG, gN_sN, gS_sI, gS_sR, gS_sA, gS_sL, gS_sF, gS_sQ, gS_sG, gS_sN, gO_sI, gO_sR, gO_sA, gO_sL, gO_sF, gO_sQ, gO_sN, isR_ref, isR_null, isR_rf, isR2_ref, isR2_null, isR2_rf, am_k_int, am_k_ref, am_k_null, am_k_rf, am_k_none, am_k_long, am_k_double, rf_some, rf_none, KT_ret, KT_void, XP_ap, true_and, and_true, Nat.reduceAdd, Nat.reduceEqDiff, reduceIte, if_true, if_false, eq_self, true_or, or_true, forall_const, not_true_eq_false, not_false_eq_true, List.set_cons_zero, List.set_cons_succ]
  rw [pO_of (k := 0) (gO_gg o3) rfl (Nat.le_of_ble_eq_true rfl)]
  simp only [x179_0, x179_1, x179_4, x179_5, x179_6, x179_9, x179_9a, x179_9n, x179_12, x179_13, x179_14, x179_17, x179_17a, x179_17n, x179_20, x179_21, x179_22, x179_22a, x179_22n, x179_25, gI_sI, gI_sR, gI_sA, gI_sL, gI_sF, gI_sQ, gI_sG, gI_sN, gR_sI, gR_sR, gR_sA, gR_sL, gR_sF, gR_sQ, gR_sG, gR_sN, gA_sI, gA_sR, gA_sA, gA_sL, gA_sF, gA_sQ, gA_sG, gA_sN, gL_sI, gL_sR, gL_sA, gL_sL, gL_sF, gL_sQ, gL_sG, gL_sN, gF_sI, gF_sR, gF_sA, gF_sL, gF_sF, gF_sQ, gF_sG, gF_sN, gQ_sI, gQ_sR, gQ_sA, gQ_sL, gQ_sF, gQ_sQ, gQ_sG, gQ_sN, gN_sI, gN_sR, gN_sA, gN_sL, gN_sF, gN_sQ, gN_sG, gN_sN, gS_sI, gS_sR, gS_sA, gS_sL, gS_sF, gS_sQ, gS_sG, gS_sN, gO_sI, gO_sR, gO_sA, gO_sL, gO_sF, gO_sQ, gO_sN, isR_ref, isR_null, isR_rf, isR2_ref, isR2_null, isR2_rf, am_k_int, am_k_ref, am_k_null, am_k_rf, am_k_none, am_k_long, am_k_double, rf_some, rf_none, KT_ret, KT_void, XP_ap, true_and, and_true, Nat.reduceAdd, Nat.reduceEqDiff, reduceIte, if_true, if_false, eq_self, true_or, or_true, forall_const, not_true_eq_false, not_false_eq_true, List.set_cons_zero, List.set_cons_succ, sG_sG]
  have e1 : 82 + (gN D + 1) = 82 + gN D + 1 := by omega
  refine hQ _ (by rw [gN_sG, gN_sN, n2]) (by rw [gS_sG, gS_sN, ← hD2]; rfl) (fun q => by rw [← hD2]; rfl) (by rw [← hD2]; exact ⟨rfl, rfl, rfl, rfl, rfl⟩) ?_ ?_ ?_ ?_
  · intro c hc hca
    rw [gG_sG, if_neg hca, gG_sN, if_neg (by omega), ← hD2, gG_sG, if_neg hca, gG_sN, if_neg (by omega)]
  · rw [gO_sG o3, if_pos rfl, e1]
  · rw [gO_sG o3, if_neg (by omega), gO_sN, if_neg (by omega), ← hD2, gO_sG o1, if_neg (by omega), gO_sN, if_pos rfl]
  · rw [gO_sG o3, if_neg (by omega), gO_sN, if_pos (by omega)]
end RJ
