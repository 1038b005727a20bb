/-! FunDesk: a type with new variables -/
set_option maxRecDepth 100000
/-- types come and change -/
def TFR (D D' : sS) : Prop := (gI D' = gI D ∧ gR D' = gR D ∧ gA D' = gA D ∧ gL D' = gL D ∧ gF D' = gF D ∧ gQ D' = gQ D) ∧ (∀ b, b < 82 + gN D → ¬ isT D b → gG D' b = gG D b) ∧ (∀ b srt one two cp lv st, TY D b srt one two cp lv st → ∃ one' cp' lv' st', TY D' b srt one' two cp' lv' st' ∧ ((srt = 0 → ¬ one = none) → one' = one)) ∧ gN D ≤ gN D' ∧ gS D' + 6 * gN D ≤ gS D + 6 * gN D'
/-- copies of variables that were made under a stamp -/
def CPY (D : sS) (tm : Nat → tE) (L : Nat → Int32) (N0 : Nat) (S : Int32) (κ : Nat → Option Nat) : Prop := (∀ u two cp lv st, TY D u 0 none two cp lv st → u < N0 → (∀ k, κ u = some k → cp = some k ∧ st = S) ∧ (κ u = none → ¬ st = S)) ∧ (∀ u k, κ u = some k → u < N0 ∧ L u = 1000 ∧ N0 ≤ k ∧ isT D k ∧ tm k = .var (k + 3)) ∧ ∀ u u' k, κ u = some k → κ u' = some k → u = u'
def rn (κ : Nat → Option Nat) (u : Nat) : tE := match κ u with
  | some k => .var (k + 3)
  | none => .var (u + 3)
/-- old types have old parts -/
def CLO (D : sS) (N0 : Nat) : Prop := ∀ x srt one two cp lv st, TY D x srt one two cp lv st → x < N0 → (∀ b, one = some b → b < N0) ∧ ∀ c, two = some c → c < N0
def rq : Nat → Nat
  | 0 => 1
  | w + 1 => rq w + w + 1
/-- what instance gives -/
def RSI (D : sS) (tm : Nat → tE) (L : Nat → Int32) (N0 : Nat) (S lvl : Int32) (κ : Nat → Option Nat) (a : Nat) (D' : sS) (G' : tG) (tm' : Nat → tE) (ρ' : Nat → Nat) (L' : Nat → Int32) (κ' : Nat → Option Nat) (t : Nat) : Prop := (TH D' G' tm' ρ' ∧ LV D' L' ∧ TFR D D') ∧ (∀ c, c < 82 + gN D → tm' c = tm c ∧ L' c = L c) ∧ (∀ c, 82 + gN D ≤ c → c < 82 + gN D' → tm' c = .var (c + 3) → L' c = lvl) ∧ CPY D' tm' L' N0 S κ' ∧ (∀ u k, κ u = some k → κ' u = some k) ∧ isT D' t ∧ tm' t = ty_s (rn κ') (tm a) ∧ (∀ u, ty_h u (tm a) → L u = 1000 → ¬ κ' u = none) ∧ gN D' ≤ gN D + ty_w (tm a) ∧ CLO D' N0
section TII
variable {d : Nat} {D D' D'' : sS} {Q : am_O → am_H → Prop} {a b c l srt N v x y k N0 : Nat} {G : tG} {tm tm' : Nat → tE} {ρ : Nat → Nat} {one two cp cp' r t : Option Nat} {lv st st' S lvl : Int32} {L L' L'' : Nat → Int32} {V : Nat → tE} {κ κ' : Nat → Option Nat}
theorem TFR.refl : TFR D D := ⟨⟨rfl, rfl, rfl, rfl, rfl, rfl⟩, fun _ _ _ => rfl, fun _ _ _ _ _ _ _ h => ⟨_, _, _, _, h, fun _ => rfl⟩, Nat.le_refl _, Nat.le_refl _⟩
theorem TFR.trans (h : TFR D D') (h' : TFR D' D'') : TFR D D'' := by
  obtain ⟨⟨a1, a2, a3, a4, a5, a6⟩, a7, a8, a9, a10⟩ := h
  obtain ⟨⟨b1, b2, b3, b4, b5, b6⟩, b7, b8, b9, b10⟩ := h'
  refine ⟨⟨b1.trans a1, b2.trans a2, b3.trans a3, b4.trans a4, b5.trans a5, b6.trans a6⟩, fun b hb hn => ?_, fun b srt one two cp lv st h => ?_, by omega, by omega⟩
  · refine (b7 b (by omega) fun z => hn ?_).trans (a7 b hb hn)
    have e : gO D' b = gO D b := by unfold gO; rw [a7 b hb hn]
    obtain ⟨srt, one, two, cp, lv, st, ht⟩ := z
    unfold TY at ht
    rw [e] at ht
    exact ⟨_, _, _, _, _, _, ht⟩
  · obtain ⟨o1, c1, l1, s1, h1, k1⟩ := a8 _ _ _ _ _ _ _ h
    obtain ⟨o2, c2, l2, s2, h2, k2⟩ := b8 _ _ _ _ _ _ _ h1
    exact ⟨o2, c2, l2, s2, h2, fun z => (k2 (by rw [k1 z]; exact z)).trans (k1 z)⟩
theorem TFR.new {o : am_C} (hH : TH D G tm ρ) (hk : k ≤ 6) : TFR D (sN D o k) := by
  refine ⟨⟨rfl, rfl, rfl, rfl, rfl, rfl⟩, fun b hb _ => ?_, fun b srt one two cp lv st h => ?_, by rw [gN_sN]; omega, by rw [gN_sN, gS_sN]; omega⟩
  · rw [gG_sN, if_neg (by omega)]
  · have hbl : b < 82 + gN D := hH.lt ⟨_, _, _, _, _, _, h⟩
    refine ⟨one, cp, lv, st, ?_, fun _ => rfl⟩
    unfold TY at h ⊢
    rw [gO_sN, if_neg (by omega)]
    exact h
theorem sG_eq {o : am_C} (h : gO D a = some o) : sG D a o = D := by
  have hG : gG D a = some o := by
    unfold gO at h
    split at h
    · cases h
    · exact h
  unfold sG
  refine Prod.ext rfl (Prod.ext rfl (Prod.ext rfl (Prod.ext rfl (Prod.ext rfl (Prod.ext rfl (Prod.ext (funext fun b => ?_) rfl))))))
  show (if b = a then some o else gG D b) = gG D b
  split
  · rename_i e; rw [e, hG]
  · rfl
/-- the copy and the stamp of a type change -/
theorem TH.cs (h : TH D G tm ρ) (hL : LV D L) (ht : TY D a srt one two cp lv st) : TH (sG D a (.inr (2, [.ref srt, va_rf one, va_rf two, va_rf cp', .int lv, .int st']))) G tm ρ ∧ LV (sG D a (.inr (2, [.ref srt, va_rf one, va_rf two, va_rf cp', .int lv, .int st']))) L ∧ TFR D (sG D a (.inr (2, [.ref srt, va_rf one, va_rf two, va_rf cp', .int lv, .int st']))) ∧ TY (sG D a (.inr (2, [.ref srt, va_rf one, va_rf two, va_rf cp', .int lv, .int st']))) a srt one two cp' lv st' ∧ (∀ b, ¬ b = a → gO (sG D a (.inr (2, [.ref srt, va_rf one, va_rf two, va_rf cp', .int lv, .int st']))) b = gO D b) ∧ ∀ b, isT (sG D a (.inr (2, [.ref srt, va_rf one, va_rf two, va_rf cp', .int lv, .int st']))) b ↔ isT D b := by
  have hob : ∀ b, gO (sG D a (.inr (2, [.ref srt, va_rf one, va_rf two, va_rf cp', .int lv, .int st']))) b = if b = a then some (.inr (2, [.ref srt, va_rf one, va_rf two, va_rf cp', .int lv, .int st'])) else gO D b := fun b => gO_sG ht
  have hTN : TY (sG D a (.inr (2, [.ref srt, va_rf one, va_rf two, va_rf cp', .int lv, .int st']))) a srt one two cp' lv st' := by
    unfold TY; rw [hob, if_pos rfl]
  have hist : ∀ b, isT (sG D a (.inr (2, [.ref srt, va_rf one, va_rf two, va_rf cp', .int lv, .int st']))) b ↔ isT D b := by
    intro b
    by_cases hb : b = a
    · subst hb; exact ⟨fun _ => ⟨_, _, _, _, _, _, ht⟩, fun _ => ⟨_, _, _, _, _, _, hTN⟩⟩
    · unfold isT TY; rw [hob, if_neg hb]
  have hoth : ∀ {b srt' one' two' cp'' lv' st''}, ¬ b = a → TY (sG D a (.inr (2, [.ref srt, va_rf one, va_rf two, va_rf cp', .int lv, .int st']))) b srt' one' two' cp'' lv' st'' → TY D b srt' one' two' cp'' lv' st'' := by
    intro b srt' one' two' cp'' lv' st'' hb h'
    unfold TY at h' ⊢; rw [hob, if_neg hb] at h'; exact h'
  refine ⟨⟨h.1, fun b srt' one' two' cp'' lv' st'' hb => ?_, fun b hb => h.2.2 b fun z => hb ((hist b).mpr z)⟩, fun b srt' one' two' cp'' lv' st'' hb => ?_, ⟨⟨rfl, rfl, rfl, rfl, rfl, rfl⟩, fun b _ hb => ?_, fun b srt' one' two' cp'' lv' st'' hb => ?_, Nat.le_refl _, Nat.le_refl _⟩, hTN, fun b hb => by rw [hob, if_neg hb], hist⟩
  · by_cases hba : b = a
    · subst hba
      obtain ⟨rfl, rfl, rfl, _⟩ := hTN.eq hb
      obtain ⟨k1, k2⟩ := h.2.1 _ _ _ _ _ _ _ ht
      refine ⟨k1, ?_⟩
      unfold TK at k2 ⊢
      simp only [hist]
      exact k2
    · obtain ⟨k1, k2⟩ := h.2.1 _ _ _ _ _ _ _ (hoth hba hb)
      refine ⟨k1, ?_⟩
      unfold TK at k2 ⊢
      simp only [hist]
      exact k2
  · by_cases hba : b = a
    · subst hba
      obtain ⟨_, _, _, _, e, _⟩ := hTN.eq hb
      rw [← e]; exact hL _ _ _ _ _ _ _ ht
    · exact hL _ _ _ _ _ _ _ (hoth hba hb)
  · have hba : ¬ b = a := fun z => hb (z ▸ ⟨_, _, _, _, _, _, ht⟩)
    show (if b = a then _ else _) = _
    rw [if_neg hba]; rfl
  · by_cases hba : b = a
    · subst hba
      obtain ⟨rfl, rfl, rfl, rfl, rfl, rfl⟩ := ht.eq hb
      exact ⟨_, _, _, _, hTN, fun _ => rfl⟩
    · refine ⟨one', cp'', lv', st'', ?_, fun _ => rfl⟩
      unfold TY at hb ⊢
      rw [hob, if_neg hba]; exact hb
theorem f_realP {P : Nat → Prop} (hH : TH D G tm ρ) (ha : isT D a) (hd : 1 ≤ d) (hP : P a) (hPP : ∀ x b two cp lv st, TY D x 0 (some b) two cp lv st → P x → P b) (hQ : ∀ r srt one two cp lv st, TY D r srt one two cp lv st → tm r = tm a → RL D tm r srt one two → P r → Q (.inl (some (.ref r))) (toH D)) : AC d 75 [.ref a] (toH D) Q := by
  refine AC.pos hd fun d' _ => ?_
  rw [e75 rfl]
  have key : ∀ (k a w : Nat), ρ a ≤ k → isT D a → P a → (∀ r srt one two cp lv st, TY D r srt one two cp lv st → tm r = tm a → RL D tm r srt one two → P r → Q (.inl (some (.ref r))) (toH D)) → XW 75 d' Q 2 [some (.ref w), some (.ref a)] [] (toH D) := by
    intro k
    induction k with
    | zero =>
      intro a w hk ha hP hQ
      obtain ⟨srt, one, two, cp, lv, st, ht⟩ := ha
      have hfin : (srt = 0 → one = none) → Q (.inl (some (.ref a))) (toH D) := fun h => hQ a srt one two cp lv st ht rfl (hH.rl ht h) hP
      have hfw : srt = 0 → ¬ one = none → False := by
        intro h1 h2
        subst h1
        obtain ⟨b, rfl⟩ := Option.ne_none_iff_exists'.mp h2
        have := (hH.fw ht).2.2
        omega
      unfold TY at ht
      rw [x75_2]
      simp only [x75_0, x75_1, x75_3, x75_6, x75_9, x75_12, x75_13, x75_16, x75_16a, x75_19, x75_20, x75_23, x75_24, x75_27, x75_28, gI_sI, gI_sR, gI_sA, gI_sL, gI_sF, gI_sQ, gI_sG, gI_sN, gR_sI, gR_sR, gR_sA, gR_sL, gR_sF, gR_sQ, gR_sG, gR_sN, gA_sI, gA_sR, gA_sA, gA_sL, gA_sF, gA_sQ, gA_sG, gA_sN, gL_sI, gL_sR, gL_sA, gL_sL, gL_sF, gL_sQ, gL_sG, gL_sN, gF_sI, gF_sR, gF_sA, gF_sL, gF_sF, gF_sQ, gF_sG, gF_sN, gQ_sI, gQ_sR, gQ_sA, gQ_sL, gQ_sF, gQ_sQ, gQ_sG, gQ_sN, gN_sI, gN_sR, gN_sA, gN_sL, gN_sF, gN_sQ, gN_sG, gN_sN, gS_sI, gS_sR, gS_sA, gS_sL, gS_sF, gS_sQ, gS_sG, gS_sN, gO_sI, gO_sR, gO_sA, gO_sL, gO_sF, gO_sQ, gO_sN, isR_ref, isR_null, isR_rf, isR2_ref, isR2_null, isR2_rf, am_k_int, am_k_ref, am_k_null, am_k_rf, am_k_none, am_k_long, am_k_double, rf_some, rf_none, KT_ret, KT_void, XP_ap, true_and, and_true, Nat.reduceAdd, Nat.reduceEqDiff, reduceIte, if_true, if_false, eq_self, true_or, or_true, forall_const, not_true_eq_false, not_false_eq_true]
      rw [fO_of ht rfl rfl]
      simp only [x75_0, x75_1, x75_3, x75_6, x75_9, x75_12, x75_13, x75_16, x75_16a, x75_19, x75_20, x75_23, x75_24, x75_27, x75_28, gI_sI, gI_sR, gI_sA, gI_sL, gI_sF, gI_sQ, gI_sG, gI_sN, gR_sI, gR_sR, gR_sA, gR_sL, gR_sF, gR_sQ, gR_sG, gR_sN, gA_sI, gA_sR, gA_sA, gA_sL, gA_sF, gA_sQ, gA_sG, gA_sN, gL_sI, gL_sR, gL_sA, gL_sL, gL_sF, gL_sQ, gL_sG, gL_sN, gF_sI, gF_sR, gF_sA, gF_sL, gF_sF, gF_sQ, gF_sG, gF_sN, gQ_sI, gQ_sR, gQ_sA, gQ_sL, gQ_sF, gQ_sQ, gQ_sG, gQ_sN, gN_sI, gN_sR, gN_sA, gN_sL, gN_sF, gN_sQ, gN_sG, gN_sN, gS_sI, gS_sR, gS_sA, gS_sL, gS_sF, gS_sQ, gS_sG, gS_sN, gO_sI, gO_sR, gO_sA, gO_sL, gO_sF, gO_sQ, gO_sN, isR_ref, isR_null, isR_rf, isR2_ref, isR2_null, isR2_rf, am_k_int, am_k_ref, am_k_null, am_k_rf, am_k_none, am_k_long, am_k_double, rf_some, rf_none, KT_ret, KT_void, XP_ap, true_and, and_true, Nat.reduceAdd, Nat.reduceEqDiff, reduceIte, if_true, if_false, eq_self, true_or, or_true, forall_const, not_true_eq_false, not_false_eq_true]
      rw [fO_of ht rfl rfl]
      simp only [x75_0, x75_1, x75_3, x75_6, x75_9, x75_12, x75_13, x75_16, x75_16a, x75_19, x75_20, x75_23, x75_24, x75_27, x75_28, gI_sI, gI_sR, gI_sA, gI_sL, gI_sF, gI_sQ, gI_sG, gI_sN, gR_sI, gR_sR, gR_sA, gR_sL, gR_sF, gR_sQ, gR_sG, gR_sN, gA_sI, gA_sR, gA_sA, gA_sL, gA_sF, gA_sQ, gA_sG, gA_sN, gL_sI, gL_sR, gL_sA, gL_sL, gL_sF, gL_sQ, gL_sG, gL_sN, gF_sI, gF_sR, gF_sA, gF_sL, gF_sF, gF_sQ, gF_sG, gF_sN, gQ_sI, gQ_sR, gQ_sA, gQ_sL, gQ_sF, gQ_sQ, gQ_sG, gQ_sN, gN_sI, gN_sR, gN_sA, gN_sL, gN_sF, gN_sQ, gN_sG, gN_sN, gS_sI, gS_sR, gS_sA, gS_sL, gS_sF, gS_sQ, gS_sG, gS_sN, gO_sI, gO_sR, gO_sA, gO_sL, gO_sF, gO_sQ, gO_sN, isR_ref, isR_null, isR_rf, isR2_ref, isR2_null, isR2_rf, am_k_int, am_k_ref, am_k_null, am_k_rf, am_k_none, am_k_long, am_k_double, rf_some, rf_none, KT_ret, KT_void, XP_ap, true_and, and_true, Nat.reduceAdd, Nat.reduceEqDiff, reduceIte, if_true, if_false, eq_self, true_or, or_true, forall_const, not_true_eq_false, not_false_eq_true, Value.ref.injEq]
      rw [fO_of ht rfl rfl]
      simp only [x75_0, x75_1, x75_3, x75_6, x75_9, x75_12, x75_13, x75_16, x75_16a, x75_19, x75_20, x75_23, x75_24, x75_27, x75_28, gI_sI, gI_sR, gI_sA, gI_sL, gI_sF, gI_sQ, gI_sG, gI_sN, gR_sI, gR_sR, gR_sA, gR_sL, gR_sF, gR_sQ, gR_sG, gR_sN, gA_sI, gA_sR, gA_sA, gA_sL, gA_sF, gA_sQ, gA_sG, gA_sN, gL_sI, gL_sR, gL_sA, gL_sL, gL_sF, gL_sQ, gL_sG, gL_sN, gF_sI, gF_sR, gF_sA, gF_sL, gF_sF, gF_sQ, gF_sG, gF_sN, gQ_sI, gQ_sR, gQ_sA, gQ_sL, gQ_sF, gQ_sQ, gQ_sG, gQ_sN, gN_sI, gN_sR, gN_sA, gN_sL, gN_sF, gN_sQ, gN_sG, gN_sN, gS_sI, gS_sR, gS_sA, gS_sL, gS_sF, gS_sQ, gS_sG, gS_sN, gO_sI, gO_sR, gO_sA, gO_sL, gO_sF, gO_sQ, gO_sN, isR_ref, isR_null, isR_rf, isR2_ref, isR2_null, isR2_rf, am_k_int, am_k_ref, am_k_null, am_k_rf, am_k_none, am_k_long, am_k_double, rf_some, rf_none, KT_ret, KT_void, XP_ap, true_and, and_true, Nat.reduceAdd, Nat.reduceEqDiff, reduceIte, if_true, if_false, eq_self, true_or, or_true, forall_const, not_true_eq_false, not_false_eq_true]
      exact ⟨fun h => hfin fun z => absurd z h, fun h => ⟨fun h2 => hfin fun _ => h2, fun h2 => (hfw h h2).elim⟩⟩
    | succ k ih =>
      intro a w hk ha hP hQ
      obtain ⟨srt, one, two, cp, lv, st, ht⟩ := ha
      have hfin : (srt = 0 → one = none) → Q (.inl (some (.ref a))) (toH D) := fun h => hQ a srt one two cp lv st ht rfl (hH.rl ht h) hP
      have hfw : srt = 0 → ¬ one = none → XW 75 d' Q 2 [some (.ref w), some (va_rf one)] [] (toH D) := by
        intro h1 h2
        subst h1
        obtain ⟨b, rfl⟩ := Option.ne_none_iff_exists'.mp h2
        obtain ⟨f1, f2, f3⟩ := hH.fw ht
        exact ih b w (by omega) f1 (hPP _ _ _ _ _ _ ht hP) (fun r srt one two cp lv st y1 y2 => hQ r srt one two cp lv st y1 (y2.trans f2.symm))
      unfold TY at ht
      rw [x75_2]
      simp only [x75_0, x75_1, x75_3, x75_6, x75_9, x75_12, x75_13, x75_16, x75_16a, x75_19, x75_20, x75_23, x75_24, x75_27, x75_28, gI_sI, gI_sR, gI_sA, gI_sL, gI_sF, gI_sQ, gI_sG, gI_sN, gR_sI, gR_sR, gR_sA, gR_sL, gR_sF, gR_sQ, gR_sG, gR_sN, gA_sI, gA_sR, gA_sA, gA_sL, gA_sF, gA_sQ, gA_sG, gA_sN, gL_sI, gL_sR, gL_sA, gL_sL, gL_sF, gL_sQ, gL_sG, gL_sN, gF_sI, gF_sR, gF_sA, gF_sL, gF_sF, gF_sQ, gF_sG, gF_sN, gQ_sI, gQ_sR, gQ_sA, gQ_sL, gQ_sF, gQ_sQ, gQ_sG, gQ_sN, gN_sI, gN_sR, gN_sA, gN_sL, gN_sF, gN_sQ, gN_sG, gN_sN, gS_sI, gS_sR, gS_sA, gS_sL, gS_sF, gS_sQ, gS_sG, gS_sN, gO_sI, gO_sR, gO_sA, gO_sL, gO_sF, gO_sQ, gO_sN, isR_ref, isR_null, isR_rf, isR2_ref, isR2_null, isR2_rf, am_k_int, am_k_ref, am_k_null, am_k_rf, am_k_none, am_k_long, am_k_double, rf_some, rf_none, KT_ret, KT_void, XP_ap, true_and, and_true, Nat.reduceAdd, Nat.reduceEqDiff, reduceIte, if_true, if_false, eq_self, true_or, or_true, forall_const, not_true_eq_false, not_false_eq_true]
      rw [fO_of ht rfl rfl]
      simp only [x75_0, x75_1, x75_3, x75_6, x75_9, x75_12, x75_13, x75_16, x75_16a, x75_19, x75_20, x75_23, x75_24, x75_27, x75_28, gI_sI, gI_sR, gI_sA, gI_sL, gI_sF, gI_sQ, gI_sG, gI_sN, gR_sI, gR_sR, gR_sA, gR_sL, gR_sF, gR_sQ, gR_sG, gR_sN, gA_sI, gA_sR, gA_sA, gA_sL, gA_sF, gA_sQ, gA_sG, gA_sN, gL_sI, gL_sR, gL_sA, gL_sL, gL_sF, gL_sQ, gL_sG, gL_sN, gF_sI, gF_sR, gF_sA, gF_sL, gF_sF, gF_sQ, gF_sG, gF_sN, gQ_sI, gQ_sR, gQ_sA, gQ_sL, gQ_sF, gQ_sQ, gQ_sG, gQ_sN, gN_sI, gN_sR, gN_sA, gN_sL, gN_sF, gN_sQ, gN_sG, gN_sN, gS_sI, gS_sR, gS_sA, gS_sL, gS_sF, gS_sQ, gS_sG, gS_sN, gO_sI, gO_sR, gO_sA, gO_sL, gO_sF, gO_sQ, gO_sN, isR_ref, isR_null, isR_rf, isR2_ref, isR2_null, isR2_rf, am_k_int, am_k_ref, am_k_null, am_k_rf, am_k_none, am_k_long, am_k_double, rf_some, rf_none, KT_ret, KT_void, XP_ap, true_and, and_true, Nat.reduceAdd, Nat.reduceEqDiff, reduceIte, if_true, if_false, eq_self, true_or, or_true, forall_const, not_true_eq_false, not_false_eq_true]
      rw [fO_of ht rfl rfl]
      simp only [x75_0, x75_1, x75_3, x75_6, x75_9, x75_12, x75_13, x75_16, x75_16a, x75_19, x75_20, x75_23, x75_24, x75_27, x75_28, gI_sI, gI_sR, gI_sA, gI_sL, gI_sF, gI_sQ, gI_sG, gI_sN, gR_sI, gR_sR, gR_sA, gR_sL, gR_sF, gR_sQ, gR_sG, gR_sN, gA_sI, gA_sR, gA_sA, gA_sL, gA_sF, gA_sQ, gA_sG, gA_sN, gL_sI, gL_sR, gL_sA, gL_sL, gL_sF, gL_sQ, gL_sG, gL_sN, gF_sI, gF_sR, gF_sA, gF_sL, gF_sF, gF_sQ, gF_sG, gF_sN, gQ_sI, gQ_sR, gQ_sA, gQ_sL, gQ_sF, gQ_sQ, gQ_sG, gQ_sN, gN_sI, gN_sR, gN_sA, gN_sL, gN_sF, gN_sQ, gN_sG, gN_sN, gS_sI, gS_sR, gS_sA, gS_sL, gS_sF, gS_sQ, gS_sG, gS_sN, gO_sI, gO_sR, gO_sA, gO_sL, gO_sF, gO_sQ, gO_sN, isR_ref, isR_null, isR_rf, isR2_ref, isR2_null, isR2_rf, am_k_int, am_k_ref, am_k_null, am_k_rf, am_k_none, am_k_long, am_k_double, rf_some, rf_none, KT_ret, KT_void, XP_ap, true_and, and_true, Nat.reduceAdd, Nat.reduceEqDiff, reduceIte, if_true, if_false, eq_self, true_or, or_true, forall_const, not_true_eq_false, not_false_eq_true, Value.ref.injEq]
      rw [fO_of ht rfl rfl]
      simp only [x75_0, x75_1, x75_3, x75_6, x75_9, x75_12, x75_13, x75_16, x75_16a, x75_19, x75_20, x75_23, x75_24, x75_27, x75_28, gI_sI, gI_sR, gI_sA, gI_sL, gI_sF, gI_sQ, gI_sG, gI_sN, gR_sI, gR_sR, gR_sA, gR_sL, gR_sF, gR_sQ, gR_sG, gR_sN, gA_sI, gA_sR, gA_sA, gA_sL, gA_sF, gA_sQ, gA_sG, gA_sN, gL_sI, gL_sR, gL_sA, gL_sL, gL_sF, gL_sQ, gL_sG, gL_sN, gF_sI, gF_sR, gF_sA, gF_sL, gF_sF, gF_sQ, gF_sG, gF_sN, gQ_sI, gQ_sR, gQ_sA, gQ_sL, gQ_sF, gQ_sQ, gQ_sG, gQ_sN, gN_sI, gN_sR, gN_sA, gN_sL, gN_sF, gN_sQ, gN_sG, gN_sN, gS_sI, gS_sR, gS_sA, gS_sL, gS_sF, gS_sQ, gS_sG, gS_sN, gO_sI, gO_sR, gO_sA, gO_sL, gO_sF, gO_sQ, gO_sN, isR_ref, isR_null, isR_rf, isR2_ref, isR2_null, isR2_rf, am_k_int, am_k_ref, am_k_null, am_k_rf, am_k_none, am_k_long, am_k_double, rf_some, rf_none, KT_ret, KT_void, XP_ap, true_and, and_true, Nat.reduceAdd, Nat.reduceEqDiff, reduceIte, if_true, if_false, eq_self, true_or, or_true, forall_const, not_true_eq_false, not_false_eq_true]
      exact ⟨fun h => hfin fun z => absurd z h, fun h => ⟨fun h2 => hfin fun _ => h2, fun h2 => hfw h h2⟩⟩
  simp only [x75_0, x75_1, x75_3, x75_6, x75_9, x75_12, x75_13, x75_16, x75_16a, x75_19, x75_20, x75_23, x75_24, x75_27, x75_28, gI_sI, gI_sR, gI_sA, gI_sL, gI_sF, gI_sQ, gI_sG, gI_sN, gR_sI, gR_sR, gR_sA, gR_sL, gR_sF, gR_sQ, gR_sG, gR_sN, gA_sI, gA_sR, gA_sA, gA_sL, gA_sF, gA_sQ, gA_sG, gA_sN, gL_sI, gL_sR, gL_sA, gL_sL, gL_sF, gL_sQ, gL_sG, gL_sN, gF_sI, gF_sR, gF_sA, gF_sL, gF_sF, gF_sQ, gF_sG, gF_sN, gQ_sI, gQ_sR, gQ_sA, gQ_sL, gQ_sF, gQ_sQ, gQ_sG, gQ_sN, gN_sI, gN_sR, gN_sA, gN_sL, gN_sF, gN_sQ, gN_sG, gN_sN, gS_sI, gS_sR, gS_sA, gS_sL, gS_sF, gS_sQ, gS_sG, gS_sN, gO_sI, gO_sR, gO_sA, gO_sL, gO_sF, gO_sQ, gO_sN, isR_ref, isR_null, isR_rf, isR2_ref, isR2_null, isR2_rf, am_k_int, am_k_ref, am_k_null, am_k_rf, am_k_none, am_k_long, am_k_double, rf_some, rf_none, KT_ret, KT_void, XP_ap, true_and, and_true, Nat.reduceAdd, Nat.reduceEqDiff, reduceIte, if_true, if_false, eq_self, true_or, or_true, forall_const, not_true_eq_false, not_false_eq_true]
  exact key _ a a (Nat.le_refl _) ha hP hQ
theorem rn_id (hC : CPY D tm L N0 S κ) {e : tE} (he : ∀ u, ty_h u e → ¬ L u = 1000) : ty_s (rn κ) e = e := by
  conv => rhs; rw [← ty_s_id (t := e)]
  refine ty_s_c fun u hu => ?_
  unfold rn
  cases hk : κ u with
  | none => rfl
  | some k => exact absurd (hC.2.1 u k hk).2.1 (he u hu)
/-- the new list or function is done -/
theorem ins_fin {D2 : sS} {G2 : tG} {tm2 : Nat → tE} {ρ2 : Nat → Nat} {L2 : Nat → Int32} {o : am_C} {z : Nat × Nat × Nat} {u : tE} (hH : TH D G tm ρ) (hN : N0 ≤ 82 + gN D) (H2 : TH D2 G2 tm2 ρ2) (LV2 : LV D2 L2) (F : TFR D D2) (hcT : ¬ isT D2 (82 + gN D)) (ho : gO D2 (82 + gN D) = some o) (hcl : 82 + gN D < 82 + gN D2) (h1 : ∀ c, c < 82 + gN D → tm2 c = tm c ∧ L2 c = L c) (h2 : ∀ c, 82 + gN D < c → c < 82 + gN D2 → tm2 c = .var (c + 3) → L2 c = lvl) (C2 : CPY D2 tm2 L2 N0 S κ') (hm : ∀ u k, κ u = some k → κ' u = some k) (hCLO : CLO D2 N0) (hk : nK D2 tm2 (82 + gN D) srt one two z u) (hs : ¬ srt = 0) (hnv : ¬ u = .var (82 + gN D + 3)) (hu : u = ty_s (rn κ') (tm a)) (hg : ∀ u, ty_h u (tm a) → L u = 1000 → ¬ κ' u = none) (hgN : gN D2 ≤ gN D + ty_w (tm a)) :
    RSI D tm L N0 S lvl κ a (sG D2 (82 + gN D) (.inr (2, [.ref srt, va_rf one, va_rf two, va_rf none, .int 0, .int 0]))) (upf G2 (82 + gN D) z) (upf tm2 (82 + gN D) u) ρ2 (upf L2 (82 + gN D) 0) κ' (82 + gN D) := by
  obtain ⟨H3, ist3, TY3⟩ := H2.init (cp := none) (lv := 0) (st := 0) hcT hcl ho hk hs
  have hob : ∀ b, ¬ b = 82 + gN D → gO (sG D2 (82 + gN D) (.inr (2, [.ref srt, va_rf one, va_rf two, va_rf none, .int 0, .int 0]))) b = gO D2 b := fun b hb => by rw [gO_sG ho, if_neg hb]
  have hgb : ∀ b, ¬ b = 82 + gN D → gG (sG D2 (82 + gN D) (.inr (2, [.ref srt, va_rf one, va_rf two, va_rf none, .int 0, .int 0]))) b = gG D2 b := fun b hb => by show (if b = _ then _ else _) = _; rw [if_neg hb]; rfl
  have hto : ∀ {b srt' one' two' cp' lv' st'}, ¬ b = 82 + gN D → TY (sG D2 (82 + gN D) (.inr (2, [.ref srt, va_rf one, va_rf two, va_rf none, .int 0, .int 0]))) b srt' one' two' cp' lv' st' → TY D2 b srt' one' two' cp' lv' st' := by
    intro b srt' one' two' cp' lv' st' hb h'
    unfold TY at h' ⊢; rw [hob b hb] at h'; exact h'
  have hfr : ∀ {b srt' one' two' cp' lv' st'}, ¬ b = 82 + gN D → TY D2 b srt' one' two' cp' lv' st' → TY (sG D2 (82 + gN D) (.inr (2, [.ref srt, va_rf one, va_rf two, va_rf none, .int 0, .int 0]))) b srt' one' two' cp' lv' st' := by
    intro b srt' one' two' cp' lv' st' hb h'
    unfold TY at h' ⊢; rw [hob b hb]; exact h'
  refine ⟨⟨H3, fun b srt' one' two' cp' lv' st' hb => ?_, ⟨F.1, fun b hb hn => ?_, fun b srt' one' two' cp' lv' st' hb => ?_, F.2.2.2.1, F.2.2.2.2⟩⟩, fun c hc => ⟨?_, ?_⟩, fun c h3 h4 h5 => ?_, ⟨fun v two' cp' lv' st' hv hvN => ?_, fun v k hk' => ?_, C2.2.2⟩, hm, (ist3 _).mpr (.inr rfl), by rw [upf_eq]; exact hu, hg, hgN, fun x' srt' one' two' cp' lv' st' hx' hxN => ?_⟩
  · by_cases hbc : b = 82 + gN D
    · subst hbc
      obtain ⟨_, _, _, _, e, _⟩ := TY3.eq hb
      rw [upf_eq, ← e]
    · rw [upf_ne hbc]; exact LV2 _ _ _ _ _ _ _ (hto hbc hb)
  · rw [hgb b (by omega)]; exact F.2.1 b hb hn
  · have hbl : b < 82 + gN D := hH.lt ⟨_, _, _, _, _, _, hb⟩
    obtain ⟨o1, c1, l1, s1, q1, q2⟩ := F.2.2.1 _ _ _ _ _ _ _ hb
    exact ⟨o1, c1, l1, s1, hfr (by omega) q1, q2⟩
  · rw [upf_ne (by omega)]; exact (h1 c hc).1
  · rw [upf_ne (by omega)]; exact (h1 c hc).2
  · by_cases hcc : c = 82 + gN D
    · subst hcc; rw [upf_eq] at h5; exact absurd h5 hnv
    · rw [upf_ne hcc] at h5 ⊢
      exact h2 c (by omega) h4 h5
  · exact C2.1 v two' cp' lv' st' (hto (by omega) hv) hvN
  · obtain ⟨q1, q2, q3, q4, q5⟩ := C2.2.1 v k hk'
    have hkc : ¬ k = 82 + gN D := fun e => hcT (e ▸ q4)
    exact ⟨q1, by rw [upf_ne (by omega)]; exact q2, q3, (ist3 k).mpr (.inl q4), by rw [upf_ne hkc]; exact q5⟩
  · exact hCLO _ _ _ _ _ _ _ (hto (by omega) hx') hxN
theorem f_ins : ∀ (w a d : Nat) (D : sS) (G : tG) (tm : Nat → tE) (ρ : Nat → Nat) (L : Nat → Int32) (κ : Nat → Option Nat) (Q : am_O → am_H → Prop), TH D G tm ρ → LV D L → isT D a → a < N0 → N0 ≤ 82 + gN D → ty_w (tm a) ≤ w → 2 * w + 10 ≤ d → RM D (rq w) → gI D 132 = S → gI D 131 = lvl → ¬ lvl = 1000 → CPY D tm L N0 S κ → CLO D N0 → (∀ D' G' tm' ρ' L' κ' t, RSI D tm L N0 S lvl κ a D' G' tm' ρ' L' κ' t → Q (.inl (some (.ref t))) (toH D')) → AC d 61 [.ref 25, .ref a] (toH D) Q := by
  intro w
  induction w with
  | zero => intro a d D G tm ρ L κ Q _ _ _ _ _ hw; have := ty_w1 (t := tm a); omega
  | succ w ih =>
    intro a d D G tm ρ L κ Q hH hL ha haN hN hw hd hR hS hlv hlv2 hC hold hQ
    have hR : RM D (rq w + w + 1) := hR
    refine AC.pos hd fun d' hd' => ?_
    rw [e61 rfl]
    simp only [x61_0, x61_1, x61_4, x61_5, x61_6, x61_9, x61_12, x61_13, x61_14, x61_15, x61_18, x61_21, x61_24, x61_25, x61_28, x61_31, x61_34, x61_35, x61_38, x61_39, x61_42, x61_45, x61_46, x61_47, x61_50, x61_50a, x61_50n, x61_53, x61_54, x61_55, x61_58, x61_61, x61_62, x61_65, x61_66, x61_67, x61_70, x61_73, x61_76, x61_79, x61_79f, x61_80, x61_83, x61_84, x61_85, x61_88, x61_91, x61_92, x61_95, x61_96, x61_97, x61_100, x61_103, x61_106, x61_109, x61_109f, x61_110, x61_113, x61_114, x61_115, x61_118, x61_121, x61_122, x61_123, x61_126, x61_129, x61_132, x61_135, x61_136, gI_sI, gI_sR, gI_sA, gI_sL, gI_sF, gI_sQ, gI_sG, gI_sN, gR_sI, gR_sR, gR_sA, gR_sL, gR_sF, gR_sQ, gR_sG, gR_sN, gA_sI, gA_sR, gA_sA, gA_sL, gA_sF, gA_sQ, gA_sG, gA_sN, gL_sI, gL_sR, gL_sA, gL_sL, gL_sF, gL_sQ, gL_sG, gL_sN, gF_sI, gF_sR, gF_sA, gF_sL, gF_sF, gF_sQ, gF_sG, gF_sN, gQ_sI, gQ_sR, gQ_sA, gQ_sL, gQ_sF, gQ_sQ, gQ_sG, gQ_sN, gN_sI, gN_sR, gN_sA, gN_sL, gN_sF, gN_sQ, gN_sG, gN_sN, gS_sI, gS_sR, gS_sA, gS_sL, gS_sF, gS_sQ, gS_sG, gS_sN, gO_sI, gO_sR, gO_sA, gO_sL, gO_sF, gO_sQ, gO_sN, isR_ref, isR_null, isR_rf, isR2_ref, isR2_null, isR2_rf, am_k_int, am_k_ref, am_k_null, am_k_rf, am_k_none, am_k_long, am_k_double, rf_some, rf_none, KT_ret, KT_void, XP_ap, true_and, and_true, Nat.reduceAdd, Nat.reduceEqDiff, reduceIte, if_true, if_false, eq_self, true_or, or_true, forall_const, not_true_eq_false, not_false_eq_true]
    refine ⟨isT.co ha, f_realP (P := fun x => x < N0) hH ha (by omega) haN (fun x b two cp lv st h1 h2 => (hold _ _ _ _ _ _ _ h1 h2).1 b rfl) fun r srt one two cp lv st ht hr hRL hrN => ?_⟩
    have hrT : isT D r := ⟨_, _, _, _, _, _, ht⟩
    simp only [x61_0, x61_1, x61_4, x61_5, x61_6, x61_9, x61_12, x61_13, x61_14, x61_15, x61_18, x61_21, x61_24, x61_25, x61_28, x61_31, x61_34, x61_35, x61_38, x61_39, x61_42, x61_45, x61_46, x61_47, x61_50, x61_50a, x61_50n, x61_53, x61_54, x61_55, x61_58, x61_61, x61_62, x61_65, x61_66, x61_67, x61_70, x61_73, x61_76, x61_79, x61_79f, x61_80, x61_83, x61_84, x61_85, x61_88, x61_91, x61_92, x61_95, x61_96, x61_97, x61_100, x61_103, x61_106, x61_109, x61_109f, x61_110, x61_113, x61_114, x61_115, x61_118, x61_121, x61_122, x61_123, x61_126, x61_129, x61_132, x61_135, x61_136, gI_sI, gI_sR, gI_sA, gI_sL, gI_sF, gI_sQ, gI_sG, gI_sN, gR_sI, gR_sR, gR_sA, gR_sL, gR_sF, gR_sQ, gR_sG, gR_sN, gA_sI, gA_sR, gA_sA, gA_sL, gA_sF, gA_sQ, gA_sG, gA_sN, gL_sI, gL_sR, gL_sA, gL_sL, gL_sF, gL_sQ, gL_sG, gL_sN, gF_sI, gF_sR, gF_sA, gF_sL, gF_sF, gF_sQ, gF_sG, gF_sN, gQ_sI, gQ_sR, gQ_sA, gQ_sL, gQ_sF, gQ_sQ, gQ_sG, gQ_sN, gN_sI, gN_sR, gN_sA, gN_sL, gN_sF, gN_sQ, gN_sG, gN_sN, gS_sI, gS_sR, gS_sA, gS_sL, gS_sF, gS_sQ, gS_sG, gS_sN, gO_sI, gO_sR, gO_sA, gO_sL, gO_sF, gO_sQ, gO_sN, isR_ref, isR_null, isR_rf, isR2_ref, isR2_null, isR2_rf, am_k_int, am_k_ref, am_k_null, am_k_rf, am_k_none, am_k_long, am_k_double, rf_some, rf_none, KT_ret, KT_void, XP_ap, true_and, and_true, Nat.reduceAdd, Nat.reduceEqDiff, reduceIte, if_true, if_false, eq_self, true_or, or_true, forall_const, not_true_eq_false, not_false_eq_true]
    refine f_gnc (w + 1) r d' _ hH hL hrT (by rw [hr]; exact hw) (by omega) (fun hg => ?_) (fun hg => ?_)
    · have hf0 : ∀ K, fO D r 2 0 K ↔ K (.ref srt) := fun K => fO_of ht rfl rfl
      have hf1 : ∀ K, fO D r 2 1 K ↔ K (va_rf one) := fun K => fO_of ht rfl rfl
      have hf2 : ∀ K, fO D r 2 2 K ↔ K (va_rf two) := fun K => fO_of ht rfl rfl
      have hf3 : ∀ K, fO D r 2 3 K ↔ K (va_rf cp) := fun K => fO_of ht rfl rfl
      have hf4 : ∀ K, fO D r 2 4 K ↔ K (.int lv) := fun K => fO_of ht rfl rfl
      have hf5 : ∀ K, fO D r 2 5 K ↔ K (.int st) := fun K => fO_of ht rfl rfl
      have hRm : RM D 1 := ⟨by have := hR.1; omega, by have := hR.2; omega⟩
      have hcap : capok D 6 := hRm.cap (by omega) (by omega)
      have hrl : r < 82 + gN D := hH.lt hrT
      obtain ⟨u0, hu0, hLu0⟩ := hg
      have nov : ∀ (e : tE), e = .var 0 ∨ e = .var 1 ∨ e = .var 2 → ∀ u, ¬ ty_h u e := by
        rintro e (rfl | rfl | rfl) u z
        · have z : 0 = u + 3 := z; omega
        · have z : 1 = u + 3 := z; omega
        · have z : 2 = u + 3 := z; omega
      rcases hRL with ⟨rfl, e0, e1⟩ | ⟨rfl, e1⟩ | ⟨rfl, e1⟩ | ⟨rfl, e1⟩ | ⟨rfl, b, e0, e2, e3⟩ | ⟨rfl, b, c, e0, e0', e3, e4, e5⟩
      · have hru : r = u0 := by rw [e1] at hu0; exact Nat.add_right_cancel (show r + 3 = u0 + 3 from hu0)
        subst hru
        have hlvr : lv = 1000 := (hL _ _ _ _ _ _ _ ht).trans hLu0
        subst hlvr
        have hCr := hC.1 r two cp 1000 st (e0 ▸ ht) hrN
        simp only [x61_0, x61_1, x61_4, x61_5, x61_6, x61_9, x61_12, x61_13, x61_14, x61_15, x61_18, x61_21, x61_24, x61_25, x61_28, x61_31, x61_34, x61_35, x61_38, x61_39, x61_42, x61_45, x61_46, x61_47, x61_50, x61_50a, x61_50n, x61_53, x61_54, x61_55, x61_58, x61_61, x61_62, x61_65, x61_66, x61_67, x61_70, x61_73, x61_76, x61_79, x61_79f, x61_80, x61_83, x61_84, x61_85, x61_88, x61_91, x61_92, x61_95, x61_96, x61_97, x61_100, x61_103, x61_106, x61_109, x61_109f, x61_110, x61_113, x61_114, x61_115, x61_118, x61_121, x61_122, x61_123, x61_126, x61_129, x61_132, x61_135, x61_136, gI_sI, gI_sR, gI_sA, gI_sL, gI_sF, gI_sQ, gI_sG, gI_sN, gR_sI, gR_sR, gR_sA, gR_sL, gR_sF, gR_sQ, gR_sG, gR_sN, gA_sI, gA_sR, gA_sA, gA_sL, gA_sF, gA_sQ, gA_sG, gA_sN, gL_sI, gL_sR, gL_sA, gL_sL, gL_sF, gL_sQ, gL_sG, gL_sN, gF_sI, gF_sR, gF_sA, gF_sL, gF_sF, gF_sQ, gF_sG, gF_sN, gQ_sI, gQ_sR, gQ_sA, gQ_sL, gQ_sF, gQ_sQ, gQ_sG, gQ_sN, gN_sI, gN_sR, gN_sA, gN_sL, gN_sF, gN_sQ, gN_sG, gN_sN, gS_sI, gS_sR, gS_sA, gS_sL, gS_sF, gS_sQ, gS_sG, gS_sN, gO_sI, gO_sR, gO_sA, gO_sL, gO_sF, gO_sQ, gO_sN, isR_ref, isR_null, isR_rf, isR2_ref, isR2_null, isR2_rf, am_k_int, am_k_ref, am_k_null, am_k_rf, am_k_none, am_k_long, am_k_double, rf_some, rf_none, KT_ret, KT_void, XP_ap, true_and, and_true, Nat.reduceAdd, Nat.reduceEqDiff, reduceIte, if_true, if_false, eq_self, true_or, or_true, forall_const, not_true_eq_false, not_false_eq_true, i_10, hf0, hf3, hf4, hf5, hS, Value.ref.injEq, false_imp_iff, true_imp_iff, not_false_eq_true]
        refine ⟨fun z => ?_, fun z => ?_⟩
        · cases hκ : κ r with
          | none => exact absurd z (hCr.2 hκ)
          | some k =>
            obtain ⟨q1, _⟩ := hCr.1 k hκ
            obtain ⟨_, _, q2, q3, q4⟩ := hC.2.1 r k hκ
            subst z
            rw [pO_set ht rfl (Nat.le_of_ble_eq_true rfl)]
            simp only [List.set_cons_zero, List.set_cons_succ]
            rw [sG_eq ht, hf3]
            subst q1
            simp only [x61_0, x61_1, x61_4, x61_5, x61_6, x61_9, x61_12, x61_13, x61_14, x61_15, x61_18, x61_21, x61_24, x61_25, x61_28, x61_31, x61_34, x61_35, x61_38, x61_39, x61_42, x61_45, x61_46, x61_47, x61_50, x61_50a, x61_50n, x61_53, x61_54, x61_55, x61_58, x61_61, x61_62, x61_65, x61_66, x61_67, x61_70, x61_73, x61_76, x61_79, x61_79f, x61_80, x61_83, x61_84, x61_85, x61_88, x61_91, x61_92, x61_95, x61_96, x61_97, x61_100, x61_103, x61_106, x61_109, x61_109f, x61_110, x61_113, x61_114, x61_115, x61_118, x61_121, x61_122, x61_123, x61_126, x61_129, x61_132, x61_135, x61_136, gI_sI, gI_sR, gI_sA, gI_sL, gI_sF, gI_sQ, gI_sG, gI_sN, gR_sI, gR_sR, gR_sA, gR_sL, gR_sF, gR_sQ, gR_sG, gR_sN, gA_sI, gA_sR, gA_sA, gA_sL, gA_sF, gA_sQ, gA_sG, gA_sN, gL_sI, gL_sR, gL_sA, gL_sL, gL_sF, gL_sQ, gL_sG, gL_sN, gF_sI, gF_sR, gF_sA, gF_sL, gF_sF, gF_sQ, gF_sG, gF_sN, gQ_sI, gQ_sR, gQ_sA, gQ_sL, gQ_sF, gQ_sQ, gQ_sG, gQ_sN, gN_sI, gN_sR, gN_sA, gN_sL, gN_sF, gN_sQ, gN_sG, gN_sN, gS_sI, gS_sR, gS_sA, gS_sL, gS_sF, gS_sQ, gS_sG, gS_sN, gO_sI, gO_sR, gO_sA, gO_sL, gO_sF, gO_sQ, gO_sN, isR_ref, isR_null, isR_rf, isR2_ref, isR2_null, isR2_rf, am_k_int, am_k_ref, am_k_null, am_k_rf, am_k_none, am_k_long, am_k_double, rf_some, rf_none, KT_ret, KT_void, XP_ap, true_and, and_true, Nat.reduceAdd, Nat.reduceEqDiff, reduceIte, if_true, if_false, eq_self, true_or, or_true, forall_const, not_true_eq_false, not_false_eq_true]
            refine hQ D G tm ρ L κ k ⟨⟨hH, hL, TFR.refl⟩, fun c _ => ⟨rfl, rfl⟩, fun c h1 h2 => by omega, hC, fun _ _ h => h, q3, ?_, fun u hu hLu => ?_, by omega, hold⟩
            · rw [← hr, e1, ty_s3, q4]; unfold rn; rw [hκ]
            · rw [← hr, e1] at hu
              have hu : r = u := Nat.add_right_cancel (show r + 3 = u + 3 from hu)
              subst hu
              rw [hκ]; simp
        · have hκ : κ r = none := by
            cases hκ : κ r with
            | none => rfl
            | some k => exact absurd (hCr.1 k hκ).2 z
          refine f_fresh (by omega) hcap ?_
          rw [hlv]
          obtain ⟨H1, ist1, TY1⟩ := hH.newT (srt := 0) (one := none) (two := none) (cp := none) (lv := lvl) (st := 0) (k := 6) (.inl ⟨rfl, rfl, rfl, rfl⟩)
          have F1 : TFR D (sN D (.inr (2, [.ref 0, va_rf none, va_rf none, va_rf none, .int lvl, .int 0])) 6) := TFR.new hH (by omega)
          have hS1 : gI (sN D (.inr (2, [.ref 0, va_rf none, va_rf none, va_rf none, .int lvl, .int 0])) 6) 132 = S := hS
          have hN1 : gN (sN D (.inr (2, [.ref 0, va_rf none, va_rf none, va_rf none, .int lvl, .int 0])) 6) = gN D + 1 := gN_sN
          have hold1 : ∀ b, b < 82 + gN D → gO (sN D (.inr (2, [.ref 0, va_rf none, va_rf none, va_rf none, .int lvl, .int 0])) 6) b = gO D b := fun b hb => by rw [gO_sN, if_neg (by omega)]
          generalize sN D (.inr (2, [.ref 0, va_rf none, va_rf none, va_rf none, .int lvl, .int 0])) 6 = D1 at *
          have ht1 : TY D1 r 0 one two cp 1000 st := (hold1 r hrl).trans ht
          have LV1 : LV D1 (upf L (82 + gN D) lvl) := by
            intro b srt' one' two' cp' lv' st' hb
            by_cases hbN : b = 82 + gN D
            · subst hbN
              obtain ⟨_, _, _, _, e, _⟩ := TY1.eq hb
              rw [upf_eq, ← e]
            · have hbT := ((ist1 b).mp ⟨_, _, _, _, _, _, hb⟩).resolve_right hbN
              rw [upf_ne hbN]
              exact hL _ _ _ _ _ _ _ (show TY D b srt' one' two' cp' lv' st' from (hold1 b (hH.lt hbT)).symm.trans hb)
          obtain ⟨H2, LV2, F2, TY2, oth2, ist2⟩ := H1.cs (cp' := some (82 + gN D)) (st' := S) LV1 ht1
          have hp3 : ∀ K, pO D1 r 2 3 (.ref (82 + gN D)) K ↔ K (sG D1 r (.inr (2, [.ref 0, va_rf one, va_rf two, .ref (82 + gN D), .int 1000, .int st]))) := fun K => pO_set ht1 rfl (Nat.le_of_ble_eq_true rfl)
          have hp5 : ∀ K, pO (sG D1 r (.inr (2, [.ref 0, va_rf one, va_rf two, .ref (82 + gN D), .int 1000, .int st]))) r 2 5 (.int S) K ↔ K (sG D1 r (.inr (2, [.ref 0, va_rf one, va_rf two, va_rf (some (82 + gN D)), .int 1000, .int S]))) := fun K => by
            rw [pO_set (gO_gg ht1) rfl (Nat.le_of_ble_eq_true rfl)]
            simp only [List.set_cons_zero, List.set_cons_succ, sG_sG]
            exact Iff.rfl
          have hq3 : ∀ K, fO (sG D1 r (.inr (2, [.ref 0, va_rf one, va_rf two, va_rf (some (82 + gN D)), .int 1000, .int S]))) r 2 3 K ↔ K (.ref (82 + gN D)) := fun K => fO_of TY2 rfl rfl
          simp only [x61_0, x61_1, x61_4, x61_5, x61_6, x61_9, x61_12, x61_13, x61_14, x61_15, x61_18, x61_21, x61_24, x61_25, x61_28, x61_31, x61_34, x61_35, x61_38, x61_39, x61_42, x61_45, x61_46, x61_47, x61_50, x61_50a, x61_50n, x61_53, x61_54, x61_55, x61_58, x61_61, x61_62, x61_65, x61_66, x61_67, x61_70, x61_73, x61_76, x61_79, x61_79f, x61_80, x61_83, x61_84, x61_85, x61_88, x61_91, x61_92, x61_95, x61_96, x61_97, x61_100, x61_103, x61_106, x61_109, x61_109f, x61_110, x61_113, x61_114, x61_115, x61_118, x61_121, x61_122, x61_123, x61_126, x61_129, x61_132, x61_135, x61_136, gI_sI, gI_sR, gI_sA, gI_sL, gI_sF, gI_sQ, gI_sG, gI_sN, gR_sI, gR_sR, gR_sA, gR_sL, gR_sF, gR_sQ, gR_sG, gR_sN, gA_sI, gA_sR, gA_sA, gA_sL, gA_sF, gA_sQ, gA_sG, gA_sN, gL_sI, gL_sR, gL_sA, gL_sL, gL_sF, gL_sQ, gL_sG, gL_sN, gF_sI, gF_sR, gF_sA, gF_sL, gF_sF, gF_sQ, gF_sG, gF_sN, gQ_sI, gQ_sR, gQ_sA, gQ_sL, gQ_sF, gQ_sQ, gQ_sG, gQ_sN, gN_sI, gN_sR, gN_sA, gN_sL, gN_sF, gN_sQ, gN_sG, gN_sN, gS_sI, gS_sR, gS_sA, gS_sL, gS_sF, gS_sQ, gS_sG, gS_sN, gO_sI, gO_sR, gO_sA, gO_sL, gO_sF, gO_sQ, gO_sN, isR_ref, isR_null, isR_rf, isR2_ref, isR2_null, isR2_rf, am_k_int, am_k_ref, am_k_null, am_k_rf, am_k_none, am_k_long, am_k_double, rf_some, rf_none, KT_ret, KT_void, XP_ap, true_and, and_true, Nat.reduceAdd, Nat.reduceEqDiff, reduceIte, if_true, if_false, eq_self, true_or, or_true, forall_const, not_true_eq_false, not_false_eq_true, hp3, hS1]
          rw [hp5]
          rw [hq3]
          simp only [x61_0, x61_1, x61_4, x61_5, x61_6, x61_9, x61_12, x61_13, x61_14, x61_15, x61_18, x61_21, x61_24, x61_25, x61_28, x61_31, x61_34, x61_35, x61_38, x61_39, x61_42, x61_45, x61_46, x61_47, x61_50, x61_50a, x61_50n, x61_53, x61_54, x61_55, x61_58, x61_61, x61_62, x61_65, x61_66, x61_67, x61_70, x61_73, x61_76, x61_79, x61_79f, x61_80, x61_83, x61_84, x61_85, x61_88, x61_91, x61_92, x61_95, x61_96, x61_97, x61_100, x61_103, x61_106, x61_109, x61_109f, x61_110, x61_113, x61_114, x61_115, x61_118, x61_121, x61_122, x61_123, x61_126, x61_129, x61_132, x61_135, x61_136, gI_sI, gI_sR, gI_sA, gI_sL, gI_sF, gI_sQ, gI_sG, gI_sN, gR_sI, gR_sR, gR_sA, gR_sL, gR_sF, gR_sQ, gR_sG, gR_sN, gA_sI, gA_sR, gA_sA, gA_sL, gA_sF, gA_sQ, gA_sG, gA_sN, gL_sI, gL_sR, gL_sA, gL_sL, gL_sF, gL_sQ, gL_sG, gL_sN, gF_sI, gF_sR, gF_sA, gF_sL, gF_sF, gF_sQ, gF_sG, gF_sN, gQ_sI, gQ_sR, gQ_sA, gQ_sL, gQ_sF, gQ_sQ, gQ_sG, gQ_sN, gN_sI, gN_sR, gN_sA, gN_sL, gN_sF, gN_sQ, gN_sG, gN_sN, gS_sI, gS_sR, gS_sA, gS_sL, gS_sF, gS_sQ, gS_sG, gS_sN, gO_sI, gO_sR, gO_sA, gO_sL, gO_sF, gO_sQ, gO_sN, isR_ref, isR_null, isR_rf, isR2_ref, isR2_null, isR2_rf, am_k_int, am_k_ref, am_k_null, am_k_rf, am_k_none, am_k_long, am_k_double, rf_some, rf_none, KT_ret, KT_void, XP_ap, true_and, and_true, Nat.reduceAdd, Nat.reduceEqDiff, reduceIte, if_true, if_false, eq_self, true_or, or_true, forall_const, not_true_eq_false, not_false_eq_true]
          have hrk : ¬ r = 82 + gN D := by omega
          show Q (.inl (some (.ref (82 + gN D)))) (toH (sG D1 r (.inr (2, [.ref 0, va_rf one, va_rf two, va_rf (some (82 + gN D)), .int 1000, .int S]))))
          have hN2 : gN (sG D1 r (.inr (2, [.ref 0, va_rf one, va_rf two, va_rf (some (82 + gN D)), .int 1000, .int S]))) = gN D + 1 := hN1
          clear hp3 hp5 hq3
          generalize sG D1 r (.inr (2, [.ref 0, va_rf one, va_rf two, va_rf (some (82 + gN D)), .int 1000, .int S])) = D2 at H2 LV2 F2 TY2 oth2 ist2 hN2 ⊢
          refine hQ _ _ _ _ (upf L (82 + gN D) lvl) (upf κ r (some (82 + gN D))) (82 + gN D) ⟨⟨H2, LV2, F1.trans F2⟩, fun c hc => ⟨upf_ne (by omega), upf_ne (by omega)⟩, fun c h1 h2 _ => ?_, ⟨fun u two' cp' lv' st' hu huN => ?_, fun u k' hk' => ?_, fun u u' k' h1 h2 => ?_⟩, fun u k' hk' => ?_, (ist2 _).mpr ((ist1 _).mpr (.inr rfl)), ?_, fun u hu hLu => ?_, ?_, fun x' srt' one' two' cp' lv' st' hx' hxN => ?_⟩
          · have : c = 82 + gN D := by omega
            subst this; exact upf_eq
          · by_cases hur : u = r
            · subst hur
              obtain ⟨_, _, _, q4, _, q6⟩ := TY2.eq hu
              rw [upf_eq]
              exact ⟨fun k' hk' => ⟨by rw [← q4]; exact hk', q6.symm⟩, fun hk' => by cases hk'⟩
            · rw [upf_ne hur]
              have huD : TY D u 0 none two' cp' lv' st' := by
                unfold TY at hu ⊢
                rw [oth2 u hur, hold1 u (by omega)] at hu
                exact hu
              exact hC.1 u two' cp' lv' st' huD huN
          · by_cases hur : u = r
            · subst hur
              rw [upf_eq] at hk'
              cases hk'
              exact ⟨hrN, by rw [upf_ne hrk]; exact hLu0, hN, (ist2 _).mpr ((ist1 _).mpr (.inr rfl)), upf_eq⟩
            · rw [upf_ne hur] at hk'
              obtain ⟨q1, q2, q3, q4, q5⟩ := hC.2.1 u k' hk'
              have := hH.lt q4
              exact ⟨q1, by rw [upf_ne (by omega)]; exact q2, q3, (ist2 _).mpr ((ist1 _).mpr (.inl q4)), by rw [upf_ne (by omega)]; exact q5⟩
          · by_cases hur : u = r
            · by_cases hur' : u' = r
              · rw [hur, hur']
              · rw [hur, upf_eq] at h1
                rw [upf_ne hur'] at h2
                cases h1
                exact absurd (hH.lt (hC.2.1 _ _ h2).2.2.2.1) (by omega)
            · rw [upf_ne hur] at h1
              by_cases hur' : u' = r
              · rw [hur', upf_eq] at h2
                cases h2
                exact absurd (hH.lt (hC.2.1 _ _ h1).2.2.2.1) (by omega)
              · rw [upf_ne hur'] at h2
                exact hC.2.2 u u' k' h1 h2
          · have hur : ¬ u = r := fun e => by rw [e, hκ] at hk'; cases hk'
            rw [upf_ne hur]; exact hk'
          · rw [← hr, e1, ty_s3, upf_eq]; unfold rn; rw [upf_eq]
          · rw [← hr, e1] at hu
            have hu : r = u := Nat.add_right_cancel (show r + 3 = u + 3 from hu)
            subst hu
            rw [upf_eq]; simp
          · rw [hN2]
            have := ty_w1 (t := tm a)
            omega
          · by_cases hxr : x' = r
            · subst hxr
              obtain ⟨_, rfl, rfl, _⟩ := TY2.eq hx'
              exact hold _ _ _ _ _ _ _ ht hxN
            · have hxD : TY D x' srt' one' two' cp' lv' st' := by
                unfold TY at hx' ⊢
                rw [oth2 x' hxr, hold1 x' (by omega)] at hx'
                exact hx'
              exact hold _ _ _ _ _ _ _ hxD hxN
      · exact absurd hu0 (nov _ (.inl e1) u0)
      · exact absurd hu0 (nov _ (.inr (.inl e1)) u0)
      · exact absurd hu0 (nov _ (.inr (.inr e1)) u0)
      · subst e0
        have hwb : ty_w (tm b) + 2 = ty_w (tm a) := by rw [← hr, e3]; rfl
        have hbl := hH.lt e2
        have hbN : b < N0 := (hold _ _ _ _ _ _ _ ht hrN).1 b rfl
        simp only [x61_0, x61_1, x61_4, x61_5, x61_6, x61_9, x61_12, x61_13, x61_14, x61_15, x61_18, x61_21, x61_24, x61_25, x61_28, x61_31, x61_34, x61_35, x61_38, x61_39, x61_42, x61_45, x61_46, x61_47, x61_50, x61_50a, x61_50n, x61_53, x61_54, x61_55, x61_58, x61_61, x61_62, x61_65, x61_66, x61_67, x61_70, x61_73, x61_76, x61_79, x61_79f, x61_80, x61_83, x61_84, x61_85, x61_88, x61_91, x61_92, x61_95, x61_96, x61_97, x61_100, x61_103, x61_106, x61_109, x61_109f, x61_110, x61_113, x61_114, x61_115, x61_118, x61_121, x61_122, x61_123, x61_126, x61_129, x61_132, x61_135, x61_136, gI_sI, gI_sR, gI_sA, gI_sL, gI_sF, gI_sQ, gI_sG, gI_sN, gR_sI, gR_sR, gR_sA, gR_sL, gR_sF, gR_sQ, gR_sG, gR_sN, gA_sI, gA_sR, gA_sA, gA_sL, gA_sF, gA_sQ, gA_sG, gA_sN, gL_sI, gL_sR, gL_sA, gL_sL, gL_sF, gL_sQ, gL_sG, gL_sN, gF_sI, gF_sR, gF_sA, gF_sL, gF_sF, gF_sQ, gF_sG, gF_sN, gQ_sI, gQ_sR, gQ_sA, gQ_sL, gQ_sF, gQ_sQ, gQ_sG, gQ_sN, gN_sI, gN_sR, gN_sA, gN_sL, gN_sF, gN_sQ, gN_sG, gN_sN, gS_sI, gS_sR, gS_sA, gS_sL, gS_sF, gS_sQ, gS_sG, gS_sN, gO_sI, gO_sR, gO_sA, gO_sL, gO_sF, gO_sQ, gO_sN, isR_ref, isR_null, isR_rf, isR2_ref, isR2_null, isR2_rf, am_k_int, am_k_ref, am_k_null, am_k_rf, am_k_none, am_k_long, am_k_double, rf_some, rf_none, KT_ret, KT_void, XP_ap, true_and, and_true, Nat.reduceAdd, Nat.reduceEqDiff, reduceIte, if_true, if_false, eq_self, true_or, or_true, forall_const, not_true_eq_false, not_false_eq_true, i_10, hf0, Value.ref.injEq, false_imp_iff, true_imp_iff, not_false_eq_true]
        refine ⟨hcap, ?_⟩
        obtain ⟨H1, ist1⟩ := hH.junk (k := 6) (o := .inr (2, [.null, .null, .null, .null, .int 0, .int 0])) (by intro s1 s2 s3 s4 s5 s6 e; simp at e)
        have F1 : TFR D (sN D (.inr (2, [.null, .null, .null, .null, .int 0, .int 0])) 6) := TFR.new hH (by omega)
        have hS1 : gI (sN D (.inr (2, [.null, .null, .null, .null, .int 0, .int 0])) 6) 132 = S := hS
        have hlv1 : gI (sN D (.inr (2, [.null, .null, .null, .null, .int 0, .int 0])) 6) 131 = lvl := hlv
        have hN1 : gN (sN D (.inr (2, [.null, .null, .null, .null, .int 0, .int 0])) 6) = gN D + 1 := gN_sN
        have hS6 : gS (sN D (.inr (2, [.null, .null, .null, .null, .int 0, .int 0])) 6) = gS D + 6 := gS_sN
        have hold1 : ∀ b, b < 82 + gN D → gO (sN D (.inr (2, [.null, .null, .null, .null, .int 0, .int 0])) 6) b = gO D b := fun b hb => by rw [gO_sN, if_neg (by omega)]
        have hraw : gO (sN D (.inr (2, [.null, .null, .null, .null, .int 0, .int 0])) 6) (82 + gN D) = some (.inr (2, [.null, .null, .null, .null, .int 0, .int 0])) := gO_new
        generalize sN D (.inr (2, [.null, .null, .null, .null, .int 0, .int 0])) 6 = D1 at *
        have hnT : ¬ isT D1 (82 + gN D) := fun z => Nat.lt_irrefl _ (hH.lt ((ist1 _).mp z))
        have hTD : ∀ {x' srt' one' two' cp' lv' st'}, TY D1 x' srt' one' two' cp' lv' st' → TY D x' srt' one' two' cp' lv' st' := by
          intro x' srt' one' two' cp' lv' st' h'
          have := hH.lt ((ist1 x').mp ⟨_, _, _, _, _, _, h'⟩)
          unfold TY at h' ⊢; rw [hold1 x' this] at h'; exact h'
        have LV1 : LV D1 (upf L (82 + gN D) lvl) := by
          intro x' srt' one' two' cp' lv' st' h'
          have := hH.lt ((ist1 x').mp ⟨_, _, _, _, _, _, h'⟩)
          rw [upf_ne (by omega)]; exact hL _ _ _ _ _ _ _ (hTD h')
        have C1 : CPY D1 (upf tm (82 + gN D) (.var (82 + gN D + 3))) (upf L (82 + gN D) lvl) N0 S κ := ⟨fun u two' cp' lv' st' h' => hC.1 u two' cp' lv' st' (hTD h'), fun u k hk => by
          obtain ⟨q1, q2, q3, q4, q5⟩ := hC.2.1 u k hk
          have := hH.lt q4
          exact ⟨q1, by rw [upf_ne (by omega)]; exact q2, q3, (ist1 k).mpr q4, by rw [upf_ne (by omega)]; exact q5⟩, hC.2.2⟩
        have CL1 : CLO D1 N0 := fun x' srt' one' two' cp' lv' st' h' => hold _ _ _ _ _ _ _ (hTD h')
        have hf1' : ∀ K, fO D1 r 2 1 K ↔ K (va_rf (some b)) := fun K => fO_of ((hold1 r hrl).trans ht) rfl rfl
        rw [hf1']
        simp only [x61_0, x61_1, x61_4, x61_5, x61_6, x61_9, x61_12, x61_13, x61_14, x61_15, x61_18, x61_21, x61_24, x61_25, x61_28, x61_31, x61_34, x61_35, x61_38, x61_39, x61_42, x61_45, x61_46, x61_47, x61_50, x61_50a, x61_50n, x61_53, x61_54, x61_55, x61_58, x61_61, x61_62, x61_65, x61_66, x61_67, x61_70, x61_73, x61_76, x61_79, x61_79f, x61_80, x61_83, x61_84, x61_85, x61_88, x61_91, x61_92, x61_95, x61_96, x61_97, x61_100, x61_103, x61_106, x61_109, x61_109f, x61_110, x61_113, x61_114, x61_115, x61_118, x61_121, x61_122, x61_123, x61_126, x61_129, x61_132, x61_135, x61_136, gI_sI, gI_sR, gI_sA, gI_sL, gI_sF, gI_sQ, gI_sG, gI_sN, gR_sI, gR_sR, gR_sA, gR_sL, gR_sF, gR_sQ, gR_sG, gR_sN, gA_sI, gA_sR, gA_sA, gA_sL, gA_sF, gA_sQ, gA_sG, gA_sN, gL_sI, gL_sR, gL_sA, gL_sL, gL_sF, gL_sQ, gL_sG, gL_sN, gF_sI, gF_sR, gF_sA, gF_sL, gF_sF, gF_sQ, gF_sG, gF_sN, gQ_sI, gQ_sR, gQ_sA, gQ_sL, gQ_sF, gQ_sQ, gQ_sG, gQ_sN, gN_sI, gN_sR, gN_sA, gN_sL, gN_sF, gN_sQ, gN_sG, gN_sN, gS_sI, gS_sR, gS_sA, gS_sL, gS_sF, gS_sQ, gS_sG, gS_sN, gO_sI, gO_sR, gO_sA, gO_sL, gO_sF, gO_sQ, gO_sN, isR_ref, isR_null, isR_rf, isR2_ref, isR2_null, isR2_rf, am_k_int, am_k_ref, am_k_null, am_k_rf, am_k_none, am_k_long, am_k_double, rf_some, rf_none, KT_ret, KT_void, XP_ap, true_and, and_true, Nat.reduceAdd, Nat.reduceEqDiff, reduceIte, if_true, if_false, eq_self, true_or, or_true, forall_const, not_true_eq_false, not_false_eq_true]
        refine ih b d' D1 _ _ ρ _ κ _ H1 LV1 ((ist1 b).mpr e2) hbN (by omega) (by rw [upf_ne (by omega)]; omega) (by omega) ⟨by have := hR.1; omega, by have := hR.2; omega⟩ hS1 hlv1 hlv2 C1 CL1 fun D2 G2 tm2 ρ2 L2 κ2 t2 hRS => ?_
        obtain ⟨⟨H2, LV2, F2⟩, r1, r2, C2, r3, r4, r5, r6, r7, CL2⟩ := hRS
        have hN2 := F2.2.2.2.1
        have hnT2 : gO D2 (82 + gN D) = some (.inr (2, [.null, .null, .null, .null, .int 0, .int 0])) := by
          have : gO D2 (82 + gN D) = gO D1 (82 + gN D) := by unfold gO; rw [F2.2.1 _ (by omega) hnT]
          rw [this]; exact hraw
        have hcT2 : ¬ isT D2 (82 + gN D) := by
          rintro ⟨s1, s2, s3, s4, s5, s6, e⟩
          unfold TY at e
          rw [hnT2] at e
          simp at e
        rw [upf_ne (by omega)] at r5 r6 r7
        simp only [x61_0, x61_1, x61_4, x61_5, x61_6, x61_9, x61_12, x61_13, x61_14, x61_15, x61_18, x61_21, x61_24, x61_25, x61_28, x61_31, x61_34, x61_35, x61_38, x61_39, x61_42, x61_45, x61_46, x61_47, x61_50, x61_50a, x61_50n, x61_53, x61_54, x61_55, x61_58, x61_61, x61_62, x61_65, x61_66, x61_67, x61_70, x61_73, x61_76, x61_79, x61_79f, x61_80, x61_83, x61_84, x61_85, x61_88, x61_91, x61_92, x61_95, x61_96, x61_97, x61_100, x61_103, x61_106, x61_109, x61_109f, x61_110, x61_113, x61_114, x61_115, x61_118, x61_121, x61_122, x61_123, x61_126, x61_129, x61_132, x61_135, x61_136, gI_sI, gI_sR, gI_sA, gI_sL, gI_sF, gI_sQ, gI_sG, gI_sN, gR_sI, gR_sR, gR_sA, gR_sL, gR_sF, gR_sQ, gR_sG, gR_sN, gA_sI, gA_sR, gA_sA, gA_sL, gA_sF, gA_sQ, gA_sG, gA_sN, gL_sI, gL_sR, gL_sA, gL_sL, gL_sF, gL_sQ, gL_sG, gL_sN, gF_sI, gF_sR, gF_sA, gF_sL, gF_sF, gF_sQ, gF_sG, gF_sN, gQ_sI, gQ_sR, gQ_sA, gQ_sL, gQ_sF, gQ_sQ, gQ_sG, gQ_sN, gN_sI, gN_sR, gN_sA, gN_sL, gN_sF, gN_sQ, gN_sG, gN_sN, gS_sI, gS_sR, gS_sA, gS_sL, gS_sF, gS_sQ, gS_sG, gS_sN, gO_sI, gO_sR, gO_sA, gO_sL, gO_sF, gO_sQ, gO_sN, isR_ref, isR_null, isR_rf, isR2_ref, isR2_null, isR2_rf, am_k_int, am_k_ref, am_k_null, am_k_rf, am_k_none, am_k_long, am_k_double, rf_some, rf_none, KT_ret, KT_void, XP_ap, true_and, and_true, Nat.reduceAdd, Nat.reduceEqDiff, reduceIte, if_true, if_false, eq_self, true_or, or_true, forall_const, not_true_eq_false, not_false_eq_true]
        show AC d' 74 [.ref (82 + gN D), .ref 4, va_rf (some t2), va_rf none] _ _
        refine f_type (by omega) hnT2 ?_
        simp only [x61_0, x61_1, x61_4, x61_5, x61_6, x61_9, x61_12, x61_13, x61_14, x61_15, x61_18, x61_21, x61_24, x61_25, x61_28, x61_31, x61_34, x61_35, x61_38, x61_39, x61_42, x61_45, x61_46, x61_47, x61_50, x61_50a, x61_50n, x61_53, x61_54, x61_55, x61_58, x61_61, x61_62, x61_65, x61_66, x61_67, x61_70, x61_73, x61_76, x61_79, x61_79f, x61_80, x61_83, x61_84, x61_85, x61_88, x61_91, x61_92, x61_95, x61_96, x61_97, x61_100, x61_103, x61_106, x61_109, x61_109f, x61_110, x61_113, x61_114, x61_115, x61_118, x61_121, x61_122, x61_123, x61_126, x61_129, x61_132, x61_135, x61_136, gI_sI, gI_sR, gI_sA, gI_sL, gI_sF, gI_sQ, gI_sG, gI_sN, gR_sI, gR_sR, gR_sA, gR_sL, gR_sF, gR_sQ, gR_sG, gR_sN, gA_sI, gA_sR, gA_sA, gA_sL, gA_sF, gA_sQ, gA_sG, gA_sN, gL_sI, gL_sR, gL_sA, gL_sL, gL_sF, gL_sQ, gL_sG, gL_sN, gF_sI, gF_sR, gF_sA, gF_sL, gF_sF, gF_sQ, gF_sG, gF_sN, gQ_sI, gQ_sR, gQ_sA, gQ_sL, gQ_sF, gQ_sQ, gQ_sG, gQ_sN, gN_sI, gN_sR, gN_sA, gN_sL, gN_sF, gN_sQ, gN_sG, gN_sN, gS_sI, gS_sR, gS_sA, gS_sL, gS_sF, gS_sQ, gS_sG, gS_sN, gO_sI, gO_sR, gO_sA, gO_sL, gO_sF, gO_sQ, gO_sN, isR_ref, isR_null, isR_rf, isR2_ref, isR2_null, isR2_rf, am_k_int, am_k_ref, am_k_null, am_k_rf, am_k_none, am_k_long, am_k_double, rf_some, rf_none, KT_ret, KT_void, XP_ap, true_and, and_true, Nat.reduceAdd, Nat.reduceEqDiff, reduceIte, if_true, if_false, eq_self, true_or, or_true, forall_const, not_true_eq_false, not_false_eq_true]
        refine hQ _ _ _ _ _ _ _ (ins_fin (one := some t2) (two := none) (z := (4, t2, 0)) (u := .neg (tm2 t2)) hH hN H2 LV2 (F1.trans F2) hcT2 hnT2 (by omega) (fun c hc => ?_) (fun c h3 h4 => r2 c (by omega) h4) C2 r3 CL2 (.inr (.inl ⟨rfl, t2, rfl, r4, rfl, rfl⟩)) (by decide) (fun e => by cases e) ?_ (fun u hu hLu => ?_) (by omega))
        · obtain ⟨q1, q2⟩ := r1 c (by omega)
          rw [upf_ne (by omega)] at q1 q2
          exact ⟨q1, q2⟩
        · rw [← hr, e3, r5]; rfl
        · have hub : ty_h u (tm b) := by rw [← hr, e3] at hu; exact hu
          have huN := (hH.1.var hbl hub).1
          exact r6 u hub (by rw [upf_ne (by omega)]; exact hLu)
      · subst e0 e0'
        have hwb : ty_w (tm b) + ty_w (tm c) + 3 = ty_w (tm a) := by rw [← hr, e5]; rfl
        have hbl := hH.lt e3
        have hccl := hH.lt e4
        have hbN : b < N0 := (hold _ _ _ _ _ _ _ ht hrN).1 b rfl
        have hcN : c < N0 := (hold _ _ _ _ _ _ _ ht hrN).2 c rfl
        simp only [x61_0, x61_1, x61_4, x61_5, x61_6, x61_9, x61_12, x61_13, x61_14, x61_15, x61_18, x61_21, x61_24, x61_25, x61_28, x61_31, x61_34, x61_35, x61_38, x61_39, x61_42, x61_45, x61_46, x61_47, x61_50, x61_50a, x61_50n, x61_53, x61_54, x61_55, x61_58, x61_61, x61_62, x61_65, x61_66, x61_67, x61_70, x61_73, x61_76, x61_79, x61_79f, x61_80, x61_83, x61_84, x61_85, x61_88, x61_91, x61_92, x61_95, x61_96, x61_97, x61_100, x61_103, x61_106, x61_109, x61_109f, x61_110, x61_113, x61_114, x61_115, x61_118, x61_121, x61_122, x61_123, x61_126, x61_129, x61_132, x61_135, x61_136, gI_sI, gI_sR, gI_sA, gI_sL, gI_sF, gI_sQ, gI_sG, gI_sN, gR_sI, gR_sR, gR_sA, gR_sL, gR_sF, gR_sQ, gR_sG, gR_sN, gA_sI, gA_sR, gA_sA, gA_sL, gA_sF, gA_sQ, gA_sG, gA_sN, gL_sI, gL_sR, gL_sA, gL_sL, gL_sF, gL_sQ, gL_sG, gL_sN, gF_sI, gF_sR, gF_sA, gF_sL, gF_sF, gF_sQ, gF_sG, gF_sN, gQ_sI, gQ_sR, gQ_sA, gQ_sL, gQ_sF, gQ_sQ, gQ_sG, gQ_sN, gN_sI, gN_sR, gN_sA, gN_sL, gN_sF, gN_sQ, gN_sG, gN_sN, gS_sI, gS_sR, gS_sA, gS_sL, gS_sF, gS_sQ, gS_sG, gS_sN, gO_sI, gO_sR, gO_sA, gO_sL, gO_sF, gO_sQ, gO_sN, isR_ref, isR_null, isR_rf, isR2_ref, isR2_null, isR2_rf, am_k_int, am_k_ref, am_k_null, am_k_rf, am_k_none, am_k_long, am_k_double, rf_some, rf_none, KT_ret, KT_void, XP_ap, true_and, and_true, Nat.reduceAdd, Nat.reduceEqDiff, reduceIte, if_true, if_false, eq_self, true_or, or_true, forall_const, not_true_eq_false, not_false_eq_true, i_10, hf0, Value.ref.injEq, false_imp_iff, true_imp_iff, not_false_eq_true]
        refine ⟨hcap, ?_⟩
        obtain ⟨H1, ist1⟩ := hH.junk (k := 6) (o := .inr (2, [.null, .null, .null, .null, .int 0, .int 0])) (by intro s1 s2 s3 s4 s5 s6 e; simp at e)
        have F1 : TFR D (sN D (.inr (2, [.null, .null, .null, .null, .int 0, .int 0])) 6) := TFR.new hH (by omega)
        have hS1 : gI (sN D (.inr (2, [.null, .null, .null, .null, .int 0, .int 0])) 6) 132 = S := hS
        have hlv1 : gI (sN D (.inr (2, [.null, .null, .null, .null, .int 0, .int 0])) 6) 131 = lvl := hlv
        have hN1 : gN (sN D (.inr (2, [.null, .null, .null, .null, .int 0, .int 0])) 6) = gN D + 1 := gN_sN
        have hS6 : gS (sN D (.inr (2, [.null, .null, .null, .null, .int 0, .int 0])) 6) = gS D + 6 := gS_sN
        have hold1 : ∀ b, b < 82 + gN D → gO (sN D (.inr (2, [.null, .null, .null, .null, .int 0, .int 0])) 6) b = gO D b := fun b hb => by rw [gO_sN, if_neg (by omega)]
        have hraw : gO (sN D (.inr (2, [.null, .null, .null, .null, .int 0, .int 0])) 6) (82 + gN D) = some (.inr (2, [.null, .null, .null, .null, .int 0, .int 0])) := gO_new
        generalize sN D (.inr (2, [.null, .null, .null, .null, .int 0, .int 0])) 6 = D1 at *
        have hnT : ¬ isT D1 (82 + gN D) := fun z => Nat.lt_irrefl _ (hH.lt ((ist1 _).mp z))
        have hTD : ∀ {x' srt' one' two' cp' lv' st'}, TY D1 x' srt' one' two' cp' lv' st' → TY D x' srt' one' two' cp' lv' st' := by
          intro x' srt' one' two' cp' lv' st' h'
          have := hH.lt ((ist1 x').mp ⟨_, _, _, _, _, _, h'⟩)
          unfold TY at h' ⊢; rw [hold1 x' this] at h'; exact h'
        have LV1 : LV D1 (upf L (82 + gN D) lvl) := by
          intro x' srt' one' two' cp' lv' st' h'
          have := hH.lt ((ist1 x').mp ⟨_, _, _, _, _, _, h'⟩)
          rw [upf_ne (by omega)]; exact hL _ _ _ _ _ _ _ (hTD h')
        have C1 : CPY D1 (upf tm (82 + gN D) (.var (82 + gN D + 3))) (upf L (82 + gN D) lvl) N0 S κ := ⟨fun u two' cp' lv' st' h' => hC.1 u two' cp' lv' st' (hTD h'), fun u k hk => by
          obtain ⟨q1, q2, q3, q4, q5⟩ := hC.2.1 u k hk
          have := hH.lt q4
          exact ⟨q1, by rw [upf_ne (by omega)]; exact q2, q3, (ist1 k).mpr q4, by rw [upf_ne (by omega)]; exact q5⟩, hC.2.2⟩
        have CL1 : CLO D1 N0 := fun x' srt' one' two' cp' lv' st' h' => hold _ _ _ _ _ _ _ (hTD h')
        have hf1' : ∀ K, fO D1 r 2 1 K ↔ K (va_rf (some b)) := fun K => fO_of ((hold1 r hrl).trans ht) rfl rfl
        rw [hf1']
        simp only [x61_0, x61_1, x61_4, x61_5, x61_6, x61_9, x61_12, x61_13, x61_14, x61_15, x61_18, x61_21, x61_24, x61_25, x61_28, x61_31, x61_34, x61_35, x61_38, x61_39, x61_42, x61_45, x61_46, x61_47, x61_50, x61_50a, x61_50n, x61_53, x61_54, x61_55, x61_58, x61_61, x61_62, x61_65, x61_66, x61_67, x61_70, x61_73, x61_76, x61_79, x61_79f, x61_80, x61_83, x61_84, x61_85, x61_88, x61_91, x61_92, x61_95, x61_96, x61_97, x61_100, x61_103, x61_106, x61_109, x61_109f, x61_110, x61_113, x61_114, x61_115, x61_118, x61_121, x61_122, x61_123, x61_126, x61_129, x61_132, x61_135, x61_136, gI_sI, gI_sR, gI_sA, gI_sL, gI_sF, gI_sQ, gI_sG, gI_sN, gR_sI, gR_sR, gR_sA, gR_sL, gR_sF, gR_sQ, gR_sG, gR_sN, gA_sI, gA_sR, gA_sA, gA_sL, gA_sF, gA_sQ, gA_sG, gA_sN, gL_sI, gL_sR, gL_sA, gL_sL, gL_sF, gL_sQ, gL_sG, gL_sN, gF_sI, gF_sR, gF_sA, gF_sL, gF_sF, gF_sQ, gF_sG, gF_sN, gQ_sI, gQ_sR, gQ_sA, gQ_sL, gQ_sF, gQ_sQ, gQ_sG, gQ_sN, gN_sI, gN_sR, gN_sA, gN_sL, gN_sF, gN_sQ, gN_sG, gN_sN, gS_sI, gS_sR, gS_sA, gS_sL, gS_sF, gS_sQ, gS_sG, gS_sN, gO_sI, gO_sR, gO_sA, gO_sL, gO_sF, gO_sQ, gO_sN, isR_ref, isR_null, isR_rf, isR2_ref, isR2_null, isR2_rf, am_k_int, am_k_ref, am_k_null, am_k_rf, am_k_none, am_k_long, am_k_double, rf_some, rf_none, KT_ret, KT_void, XP_ap, true_and, and_true, Nat.reduceAdd, Nat.reduceEqDiff, reduceIte, if_true, if_false, eq_self, true_or, or_true, forall_const, not_true_eq_false, not_false_eq_true]
        refine ih b d' D1 _ _ ρ _ κ _ H1 LV1 ((ist1 b).mpr e3) hbN (by omega) (by rw [upf_ne (by omega)]; omega) (by omega) ⟨by have := hR.1; omega, by have := hR.2; omega⟩ hS1 hlv1 hlv2 C1 CL1 fun D2 G2 tm2 ρ2 L2 κ2 t2 hRS => ?_
        obtain ⟨⟨H2, LV2, F2⟩, r1, r2, C2, r3, r4, r5, r6, r7, CL2⟩ := hRS
        have hN2 := F2.2.2.2.1
        have hnT2 : gO D2 (82 + gN D) = some (.inr (2, [.null, .null, .null, .null, .int 0, .int 0])) := by
          have : gO D2 (82 + gN D) = gO D1 (82 + gN D) := by unfold gO; rw [F2.2.1 _ (by omega) hnT]
          rw [this]; exact hraw
        have hcT2 : ¬ isT D2 (82 + gN D) := by
          rintro ⟨s1, s2, s3, s4, s5, s6, e⟩
          unfold TY at e
          rw [hnT2] at e
          simp at e
        rw [upf_ne (by omega)] at r5 r6 r7
        have F12 := F1.trans F2
        obtain ⟨o2, c2, l2, s2, hT2, _⟩ := F12.2.2.1 _ _ _ _ _ _ _ ht
        have hf2' : ∀ K, fO D2 r 2 2 K ↔ K (va_rf (some c)) := fun K => fO_of hT2 rfl rfl
        have hcT' : isT D2 c := by
          obtain ⟨s1, s2, s3, s4, s5, s6, e⟩ := e4
          obtain ⟨_, _, _, _, q, _⟩ := F12.2.2.1 _ _ _ _ _ _ _ e
          exact ⟨_, _, _, _, _, _, q⟩
        have htc : tm2 c = tm c := by
          have := (r1 c (by omega)).1
          rw [upf_ne (by omega)] at this
          exact this
        simp only [x61_0, x61_1, x61_4, x61_5, x61_6, x61_9, x61_12, x61_13, x61_14, x61_15, x61_18, x61_21, x61_24, x61_25, x61_28, x61_31, x61_34, x61_35, x61_38, x61_39, x61_42, x61_45, x61_46, x61_47, x61_50, x61_50a, x61_50n, x61_53, x61_54, x61_55, x61_58, x61_61, x61_62, x61_65, x61_66, x61_67, x61_70, x61_73, x61_76, x61_79, x61_79f, x61_80, x61_83, x61_84, x61_85, x61_88, x61_91, x61_92, x61_95, x61_96, x61_97, x61_100, x61_103, x61_106, x61_109, x61_109f, x61_110, x61_113, x61_114, x61_115, x61_118, x61_121, x61_122, x61_123, x61_126, x61_129, x61_132, x61_135, x61_136, gI_sI, gI_sR, gI_sA, gI_sL, gI_sF, gI_sQ, gI_sG, gI_sN, gR_sI, gR_sR, gR_sA, gR_sL, gR_sF, gR_sQ, gR_sG, gR_sN, gA_sI, gA_sR, gA_sA, gA_sL, gA_sF, gA_sQ, gA_sG, gA_sN, gL_sI, gL_sR, gL_sA, gL_sL, gL_sF, gL_sQ, gL_sG, gL_sN, gF_sI, gF_sR, gF_sA, gF_sL, gF_sF, gF_sQ, gF_sG, gF_sN, gQ_sI, gQ_sR, gQ_sA, gQ_sL, gQ_sF, gQ_sQ, gQ_sG, gQ_sN, gN_sI, gN_sR, gN_sA, gN_sL, gN_sF, gN_sQ, gN_sG, gN_sN, gS_sI, gS_sR, gS_sA, gS_sL, gS_sF, gS_sQ, gS_sG, gS_sN, gO_sI, gO_sR, gO_sA, gO_sL, gO_sF, gO_sQ, gO_sN, isR_ref, isR_null, isR_rf, isR2_ref, isR2_null, isR2_rf, am_k_int, am_k_ref, am_k_null, am_k_rf, am_k_none, am_k_long, am_k_double, rf_some, rf_none, KT_ret, KT_void, XP_ap, true_and, and_true, Nat.reduceAdd, Nat.reduceEqDiff, reduceIte, if_true, if_false, eq_self, true_or, or_true, forall_const, not_true_eq_false, not_false_eq_true, hf2']
        refine ih c d' D2 G2 tm2 ρ2 L2 κ2 _ H2 LV2 hcT' hcN (by omega) (by rw [htc]; omega) (by omega) ⟨by have := hR.1; omega, by have := hR.2; have := F2.2.2.2.2; omega⟩ (by rw [F2.1.1]; exact hS1) (by rw [F2.1.1]; exact hlv1) hlv2 C2 CL2 fun D3 G3 tm3 ρ3 L3 κ3 t3 hRS3 => ?_
        obtain ⟨⟨H3, LV3, F3⟩, p1, p2, C3, p3, p4, p5, p6, p7, CL3⟩ := hRS3
        have hN3 := F3.2.2.2.1
        have hnT3 : gO D3 (82 + gN D) = some (.inr (2, [.null, .null, .null, .null, .int 0, .int 0])) := by
          have : gO D3 (82 + gN D) = gO D2 (82 + gN D) := by unfold gO; rw [F3.2.1 _ (by omega) hcT2]
          rw [this]; exact hnT2
        have hcT3 : ¬ isT D3 (82 + gN D) := by
          rintro ⟨s1, s2, s3, s4, s5, s6, e⟩
          unfold TY at e
          rw [hnT3] at e
          simp at e
        rw [htc] at p5 p6 p7
        have ht2l : t2 < 82 + gN D2 := H2.lt r4
        have htt : tm3 t2 = tm2 t2 := (p1 t2 ht2l).1
        have ht2T : isT D3 t2 := by
          obtain ⟨s1, s2, s3, s4, s5, s6, e⟩ := r4
          obtain ⟨_, _, _, _, q, _⟩ := F3.2.2.1 _ _ _ _ _ _ _ e
          exact ⟨_, _, _, _, _, _, q⟩
        have hLo : ∀ c', c' < 82 + gN D → L2 c' = L c' ∧ L3 c' = L c' := by
          intro c' hc'
          have q := (r1 c' (by omega)).2
          rw [upf_ne (by omega)] at q
          exact ⟨q, ((p1 c' (by omega)).2).trans q⟩
        have hrn : ty_s (rn κ2) (tm b) = ty_s (rn κ3) (tm b) := by
          refine ty_s_c fun u hu => ?_
          have huN := (hH.1.var hbl hu).1
          unfold rn
          cases hk2 : κ2 u with
          | some k => rw [p3 u k hk2]
          | none =>
            cases hk3 : κ3 u with
            | none => rfl
            | some k =>
              have q := (C3.2.1 u k hk3).2.1
              rw [(hLo u huN).2] at q
              exact absurd hk2 (r6 u hu (by rw [upf_ne (by omega)]; exact q))
        simp only [x61_0, x61_1, x61_4, x61_5, x61_6, x61_9, x61_12, x61_13, x61_14, x61_15, x61_18, x61_21, x61_24, x61_25, x61_28, x61_31, x61_34, x61_35, x61_38, x61_39, x61_42, x61_45, x61_46, x61_47, x61_50, x61_50a, x61_50n, x61_53, x61_54, x61_55, x61_58, x61_61, x61_62, x61_65, x61_66, x61_67, x61_70, x61_73, x61_76, x61_79, x61_79f, x61_80, x61_83, x61_84, x61_85, x61_88, x61_91, x61_92, x61_95, x61_96, x61_97, x61_100, x61_103, x61_106, x61_109, x61_109f, x61_110, x61_113, x61_114, x61_115, x61_118, x61_121, x61_122, x61_123, x61_126, x61_129, x61_132, x61_135, x61_136, gI_sI, gI_sR, gI_sA, gI_sL, gI_sF, gI_sQ, gI_sG, gI_sN, gR_sI, gR_sR, gR_sA, gR_sL, gR_sF, gR_sQ, gR_sG, gR_sN, gA_sI, gA_sR, gA_sA, gA_sL, gA_sF, gA_sQ, gA_sG, gA_sN, gL_sI, gL_sR, gL_sA, gL_sL, gL_sF, gL_sQ, gL_sG, gL_sN, gF_sI, gF_sR, gF_sA, gF_sL, gF_sF, gF_sQ, gF_sG, gF_sN, gQ_sI, gQ_sR, gQ_sA, gQ_sL, gQ_sF, gQ_sQ, gQ_sG, gQ_sN, gN_sI, gN_sR, gN_sA, gN_sL, gN_sF, gN_sQ, gN_sG, gN_sN, gS_sI, gS_sR, gS_sA, gS_sL, gS_sF, gS_sQ, gS_sG, gS_sN, gO_sI, gO_sR, gO_sA, gO_sL, gO_sF, gO_sQ, gO_sN, isR_ref, isR_null, isR_rf, isR2_ref, isR2_null, isR2_rf, am_k_int, am_k_ref, am_k_null, am_k_rf, am_k_none, am_k_long, am_k_double, rf_some, rf_none, KT_ret, KT_void, XP_ap, true_and, and_true, Nat.reduceAdd, Nat.reduceEqDiff, reduceIte, if_true, if_false, eq_self, true_or, or_true, forall_const, not_true_eq_false, not_false_eq_true]
        show AC d' 74 [.ref (82 + gN D), .ref 5, va_rf (some t2), va_rf (some t3)] _ _
        refine f_type (by omega) hnT3 ?_
        simp only [x61_0, x61_1, x61_4, x61_5, x61_6, x61_9, x61_12, x61_13, x61_14, x61_15, x61_18, x61_21, x61_24, x61_25, x61_28, x61_31, x61_34, x61_35, x61_38, x61_39, x61_42, x61_45, x61_46, x61_47, x61_50, x61_50a, x61_50n, x61_53, x61_54, x61_55, x61_58, x61_61, x61_62, x61_65, x61_66, x61_67, x61_70, x61_73, x61_76, x61_79, x61_79f, x61_80, x61_83, x61_84, x61_85, x61_88, x61_91, x61_92, x61_95, x61_96, x61_97, x61_100, x61_103, x61_106, x61_109, x61_109f, x61_110, x61_113, x61_114, x61_115, x61_118, x61_121, x61_122, x61_123, x61_126, x61_129, x61_132, x61_135, x61_136, gI_sI, gI_sR, gI_sA, gI_sL, gI_sF, gI_sQ, gI_sG, gI_sN, gR_sI, gR_sR, gR_sA, gR_sL, gR_sF, gR_sQ, gR_sG, gR_sN, gA_sI, gA_sR, gA_sA, gA_sL, gA_sF, gA_sQ, gA_sG, gA_sN, gL_sI, gL_sR, gL_sA, gL_sL, gL_sF, gL_sQ, gL_sG, gL_sN, gF_sI, gF_sR, gF_sA, gF_sL, gF_sF, gF_sQ, gF_sG, gF_sN, gQ_sI, gQ_sR, gQ_sA, gQ_sL, gQ_sF, gQ_sQ, gQ_sG, gQ_sN, gN_sI, gN_sR, gN_sA, gN_sL, gN_sF, gN_sQ, gN_sG, gN_sN, gS_sI, gS_sR, gS_sA, gS_sL, gS_sF, gS_sQ, gS_sG, gS_sN, gO_sI, gO_sR, gO_sA, gO_sL, gO_sF, gO_sQ, gO_sN, isR_ref, isR_null, isR_rf, isR2_ref, isR2_null, isR2_rf, am_k_int, am_k_ref, am_k_null, am_k_rf, am_k_none, am_k_long, am_k_double, rf_some, rf_none, KT_ret, KT_void, XP_ap, true_and, and_true, Nat.reduceAdd, Nat.reduceEqDiff, reduceIte, if_true, if_false, eq_self, true_or, or_true, forall_const, not_true_eq_false, not_false_eq_true]
        refine hQ _ _ _ _ _ _ _ (ins_fin (one := some t2) (two := some t3) (z := (5, t2, t3)) (u := .add (tm3 t2) (tm3 t3)) hH hN H3 LV3 (F12.trans F3) hcT3 hnT3 (by omega) (fun c' hc' => ?_) (fun c' h3 h4 h5 => ?_) C3 (fun u k hk => p3 u k (r3 u k hk)) CL3 (.inr (.inr ⟨rfl, t2, t3, rfl, rfl, ht2T, p4, rfl, rfl⟩)) (by decide) (fun e => by cases e) ?_ (fun u hu hLu => ?_) (by omega))
        · have q := (r1 c' (by omega)).1
          rw [upf_ne (by omega)] at q
          exact ⟨((p1 c' (by omega)).1).trans q, (hLo c' hc').2⟩
        · by_cases hcc : c' < 82 + gN D2
          · rw [(p1 c' hcc).2]
            rw [(p1 c' hcc).1] at h5
            exact r2 c' (by omega) hcc h5
          · exact p2 c' (by omega) h4 h5
        · rw [← hr, e5, htt, r5, p5, hrn]; rfl
        · rw [← hr, e5] at hu
          rcases hu with hu | hu
          · have huN := (hH.1.var hbl hu).1
            have q := r6 u hu (by rw [upf_ne (by omega)]; exact hLu)
            cases hk2 : κ2 u with
            | none => exact absurd hk2 q
            | some k => rw [p3 u k hk2]; simp
          · have huN := (hH.1.var hccl hu).1
            exact p6 u hu (by rw [(hLo u huN).1]; exact hLu)
    · simp only [x61_0, x61_1, x61_4, x61_5, x61_6, x61_9, x61_12, x61_13, x61_14, x61_15, x61_18, x61_21, x61_24, x61_25, x61_28, x61_31, x61_34, x61_35, x61_38, x61_39, x61_42, x61_45, x61_46, x61_47, x61_50, x61_50a, x61_50n, x61_53, x61_54, x61_55, x61_58, x61_61, x61_62, x61_65, x61_66, x61_67, x61_70, x61_73, x61_76, x61_79, x61_79f, x61_80, x61_83, x61_84, x61_85, x61_88, x61_91, x61_92, x61_95, x61_96, x61_97, x61_100, x61_103, x61_106, x61_109, x61_109f, x61_110, x61_113, x61_114, x61_115, x61_118, x61_121, x61_122, x61_123, x61_126, x61_129, x61_132, x61_135, x61_136, gI_sI, gI_sR, gI_sA, gI_sL, gI_sF, gI_sQ, gI_sG, gI_sN, gR_sI, gR_sR, gR_sA, gR_sL, gR_sF, gR_sQ, gR_sG, gR_sN, gA_sI, gA_sR, gA_sA, gA_sL, gA_sF, gA_sQ, gA_sG, gA_sN, gL_sI, gL_sR, gL_sA, gL_sL, gL_sF, gL_sQ, gL_sG, gL_sN, gF_sI, gF_sR, gF_sA, gF_sL, gF_sF, gF_sQ, gF_sG, gF_sN, gQ_sI, gQ_sR, gQ_sA, gQ_sL, gQ_sF, gQ_sQ, gQ_sG, gQ_sN, gN_sI, gN_sR, gN_sA, gN_sL, gN_sF, gN_sQ, gN_sG, gN_sN, gS_sI, gS_sR, gS_sA, gS_sL, gS_sF, gS_sQ, gS_sG, gS_sN, gO_sI, gO_sR, gO_sA, gO_sL, gO_sF, gO_sQ, gO_sN, isR_ref, isR_null, isR_rf, isR2_ref, isR2_null, isR2_rf, am_k_int, am_k_ref, am_k_null, am_k_rf, am_k_none, am_k_long, am_k_double, rf_some, rf_none, KT_ret, KT_void, XP_ap, true_and, and_true, Nat.reduceAdd, Nat.reduceEqDiff, reduceIte, if_true, if_false, eq_self, true_or, or_true, forall_const, not_true_eq_false, not_false_eq_true, i_10, false_imp_iff, true_imp_iff, not_false_eq_true]
      rw [hr] at hg
      exact hQ D G tm ρ L κ r ⟨⟨hH, hL, TFR.refl⟩, fun c _ => ⟨rfl, rfl⟩, fun c h1 h2 => by omega, hC, fun _ _ h => h, hrT, by rw [rn_id hC hg]; exact hr, fun u hu hLu => absurd hLu (hg u hu), by omega, hold⟩
end TII
