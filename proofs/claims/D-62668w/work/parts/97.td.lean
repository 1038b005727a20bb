/-! FunDesk: two types become one -/
set_option maxRecDepth 100000
/-- types change alone -/
def UF (D D' : sS) : Prop := (gI D' = gI D ∧ gR D' = gR D ∧ gA D' = gA D ∧ gL D' = gL D ∧ gF D' = gF D ∧ gQ D' = gQ D ∧ gN D' = gN D ∧ gS D' = gS D) ∧ (∀ b, ¬ isT D b → gG D' b = gG D b) ∧ ∀ b srt one two cp lv st, TY D b srt one two cp lv st → ∃ one' lv', TY D' b srt one' two cp lv' st ∧ ((srt = 0 → ¬ one = none) → one' = one)
/-- with an exception -/
def UE (D D' : sS) : Prop := ∃ D1, UF D D1 ∧ D' = sN D1 (.inr (25, [])) 6
/-- what a change of terms does to the variables -/
def VC (N : Nat) (tm tm' : Nat → tE) (a b : Nat) : Prop := (tm' = tm ∨ ∃ v, (ty_h v (tm a) ∨ ty_h v (tm b)) ∧ ∀ c, c < N → ¬ ty_h v (tm' c)) ∧ ∀ c, c < N → ∀ x, ty_h x (tm' c) → ty_h x (tm c) ∨ ty_h x (tm a) ∨ ty_h x (tm b)
def gn (L : Nat → Int32) (x : Nat) : Prop := L x = 1000
/-- what unify gives -/
def UQ (D : sS) (N : Nat) (tm : Nat → tE) (L : Nat → Int32) (a b : Nat) (Q : am_O → am_H → Prop) : Prop := (∀ D' G' tm' ρ' L', TH D' G' tm' ρ' → LV D' L' → UF D D' → SP tm N (gn L) tm' N (gn L') → (∀ V, VLs tm' N V ↔ VLs tm N V ∧ V a = V b) → LSv N tm L tm' L' → VC N tm tm' a b → Q (.inl none) (toH D')) ∧ ((∀ V, VLs tm N V → V a = V b → ty_w (V a) ≤ 80 → False) → ∀ D' x G' tm' ρ', TH D' G' tm' ρ' → UE D D' → Q (.inr (x, 25)) (toH D'))
section TD
variable {d : Nat} {D D' D'' : sS} {Q : am_O → am_H → Prop} {a b c l srt N v x y : Nat} {G : tG} {tm tm' : Nat → tE} {ρ : Nat → Nat} {one two cp r t : Option Nat} {lv st : Int32} {L L' L'' : Nat → Int32} {V : Nat → tE}
theorem UF.refl : UF D D := ⟨⟨rfl, rfl, rfl, rfl, rfl, rfl, rfl, rfl⟩, fun _ _ => rfl, fun _ _ _ _ _ _ _ h => ⟨_, _, h, fun _ => rfl⟩⟩
theorem UF.trans (h : UF D D') (h' : UF D' D'') : UF D D'' := by
  obtain ⟨⟨a1, a2, a3, a4, a5, a6, a7, a8⟩, a9, a10⟩ := h
  obtain ⟨⟨b1, b2, b3, b4, b5, b6, b7, b8⟩, b9, b10⟩ := h'
  refine ⟨⟨b1.trans a1, b2.trans a2, b3.trans a3, b4.trans a4, b5.trans a5, b6.trans a6, b7.trans a7, b8.trans a8⟩, fun b hb => ?_, fun b srt one two cp lv st h => ?_⟩
  rotate_left
  · obtain ⟨one1, lv1, h1, k1⟩ := a10 _ _ _ _ _ _ _ h
    obtain ⟨one2, lv2, h2, k2⟩ := b10 _ _ _ _ _ _ _ h1
    exact ⟨one2, lv2, h2, fun z => (k2 (by rw [k1 z]; exact z)).trans (k1 z)⟩
  refine (b9 b fun z => hb ?_).trans (a9 b hb)
  have e : gO D' b = gO D b := by unfold gO; rw [a9 b hb]
  obtain ⟨srt, one, two, cp, lv, st, ht⟩ := z
  unfold TY at ht
  rw [e] at ht
  exact ⟨_, _, _, _, _, _, ht⟩
theorem LVF.uf (h : LVF D D' L') : UF D D' := ⟨h.1, h.2.1, fun _ _ _ _ _ _ _ ht => ⟨_, _, h.2.2 _ _ _ _ _ _ _ ht, fun _ => rfl⟩⟩
theorem UF.ist (h : UF D D') (hb : isT D b) : isT D' b := by
  obtain ⟨srt, one, two, cp, lv, st, ht⟩ := hb
  obtain ⟨one', lv', h1, _⟩ := h.2.2 _ _ _ _ _ _ _ ht
  exact ⟨_, _, _, _, _, _, h1⟩
theorem UF.cap (h : UF D D') (hc : capok D 6) : capok D' 6 := by
  unfold capok
  rw [h.1.2.2.2.2.2.2.1, h.1.2.2.2.2.2.2.2]
  exact hc
theorem UF.n (h : UF D D') : gN D' = gN D := h.1.2.2.2.2.2.2.1
theorem RL.z (h : RL D tm x srt one two) : srt = 0 → one = none := by
  intro hs
  rcases h with ⟨_, e, _⟩ | ⟨e, _⟩ | ⟨e, _⟩ | ⟨e, _⟩ | ⟨e, _⟩ | ⟨e, _⟩
  · exact e
  all_goals rw [hs] at e; cases e
theorem TH.n6 (h : TH D G tm ρ) (ht : TY D x srt one two cp lv st) (hn : srt = 0 → one = none) : ¬ (G x).1 = 6 ∧ (srt = 0 → (G x).1 = 0) := by
  obtain ⟨hlt, hK⟩ := h.2.1 _ _ _ _ _ _ _ ht
  rcases hK with ⟨e, hK⟩ | ⟨e, hK⟩ | ⟨e, hK⟩ | ⟨e, hK⟩ | ⟨e, b, e1, e2, e3⟩ | ⟨e, b, c, e1, e2, e3, e4, e5⟩
  · rcases hK with ⟨k1, k2⟩ | ⟨b, k1, _⟩
    · exact ⟨by rw [k2]; decide, fun _ => k2⟩
    · rw [hn e] at k1; cases k1
  · exact ⟨by rw [hK]; decide, fun z => by rw [e] at z; cases z⟩
  · exact ⟨by rw [hK]; decide, fun z => by rw [e] at z; cases z⟩
  · exact ⟨by rw [hK]; decide, fun z => by rw [e] at z; cases z⟩
  · exact ⟨by rw [e2]; show ¬ (4 : Nat) = 6; decide, fun z => by rw [e] at z; cases z⟩
  · exact ⟨by rw [e3]; show ¬ (5 : Nat) = 6; decide, fun z => by rw [e] at z; cases z⟩
theorem TH.sf (h : TH D G tm ρ) : SF tm (82 + gN D) := fun c hc x hx => ⟨(h.1.var hc hx).1, (h.1.var hc hx).2.2⟩
/-- a variable gets a type -/
theorem TH.bind (h : TH D G tm ρ) (hx : TY D x 0 none two cp lv st) (hy : isT D y) (hy6 : ¬ (G y).1 = 6) (ho : ¬ ty_h x (tm y)) : TH (sG D x (.inr (2, [.ref 0, .ref y, va_rf two, va_rf cp, .int lv, .int st]))) (upf G x (6, y, 0)) (fun c => ty_s (ty_1 x (tm y)) (tm c)) (fun c => if c = y then 0 else ρ c + 1) ∧ UF D (sG D x (.inr (2, [.ref 0, .ref y, va_rf two, va_rf cp, .int lv, .int st]))) := by
  have hx0 : (G x).1 = 0 := (h.n6 hx (fun _ => rfl)).2 rfl
  have hxl : x < 82 + gN D := (h.2.1 _ _ _ _ _ _ _ hx).1
  have hyl : y < 82 + gN D := h.lt hy
  have hob : ∀ b, gO (sG D x (.inr (2, [.ref 0, .ref y, va_rf two, va_rf cp, .int lv, .int st]))) b = if b = x then some (.inr (2, [.ref 0, .ref y, va_rf two, va_rf cp, .int lv, .int st])) else gO D b := fun b => gO_sG hx
  have hTx : TY (sG D x (.inr (2, [.ref 0, .ref y, va_rf two, va_rf cp, .int lv, .int st]))) x 0 (some y) two cp lv st := by
    unfold TY; rw [hob, if_pos rfl]; rfl
  have hist : ∀ b, isT (sG D x (.inr (2, [.ref 0, .ref y, va_rf two, va_rf cp, .int lv, .int st]))) b ↔ isT D b := by
    intro b
    by_cases hb : b = x
    · subst hb; exact ⟨fun _ => ⟨_, _, _, _, _, _, hx⟩, fun _ => ⟨_, _, _, _, _, _, hTx⟩⟩
    · unfold isT TY; rw [hob, if_neg hb]
  refine ⟨⟨h.1.bind hxl hx0 hyl hy6 ho, fun a srt one' two' cp' lv' st' ht => ?_, fun a ha => ?_⟩, ⟨rfl, rfl, rfl, rfl, rfl, rfl, rfl, rfl⟩, fun b hb => ?_, fun b srt' one' two' cp' lv' st' ht' => ?_⟩
  · by_cases hax : a = x
    · subst hax
      obtain ⟨rfl, rfl, _⟩ := hTx.eq ht
      exact ⟨hxl, .inl ⟨rfl, .inr ⟨y, rfl, upf_eq, (hist y).mpr hy⟩⟩⟩
    · have ht' : TY D a srt one' two' cp' lv' st' := by unfold TY at ht ⊢; rw [hob, if_neg hax] at ht; exact ht
      obtain ⟨k1, k2⟩ := h.2.1 _ _ _ _ _ _ _ ht'
      refine ⟨k1, ?_⟩
      unfold TK at k2 ⊢
      rw [upf_ne hax]
      simp only [hist]
      exact k2
  · have hax : ¬ a = x := fun z => ha (by rw [z]; exact ⟨_, _, _, _, _, _, hTx⟩)
    rw [upf_ne hax]
    exact h.2.2 a fun z => ha ((hist a).mpr z)
  · have hbx : ¬ b = x := fun z => hb (z ▸ ⟨_, _, _, _, _, _, hx⟩)
    show (if b = x then _ else _) = _
    rw [if_neg hbx]; rfl
  · by_cases hbx : b = x
    · subst hbx
      obtain ⟨rfl, rfl, rfl, rfl, rfl, rfl⟩ := hx.eq ht'
      exact ⟨_, _, hTx, fun z => absurd rfl (z rfl)⟩
    · refine ⟨one', lv', ?_, fun _ => rfl⟩
      unfold TY at ht' ⊢
      rw [hob, if_neg hbx]
      exact ht'
/-- an exception comes -/
theorem TH.exc (h : TH D G tm ρ) : ∃ G' tm' ρ', TH (sN D (.inr (25, [])) 6) G' tm' ρ' := by
  have hno : ∀ srt one two cp lv st, ¬ TY (sN D (.inr (25, [])) 6) (82 + gN D) srt one two cp lv st := by
    intro srt one two cp lv st ht
    unfold TY at ht
    rw [gO_sN, if_pos rfl] at ht
    simp at ht
  have hold : ¬ isT D (82 + gN D) := fun z => Nat.lt_irrefl _ (h.lt z)
  have hist : ∀ b, isT (sN D (.inr (25, [])) 6) b ↔ isT D b := by
    intro b
    by_cases hb : b = 82 + gN D
    · subst hb
      exact ⟨fun ⟨_, _, _, _, _, _, z⟩ => absurd z (hno _ _ _ _ _ _), fun z => absurd z hold⟩
    · unfold isT TY; rw [gO_sN, if_neg hb]
  refine ⟨upf G (82 + gN D) (0, 0, 0), upf tm (82 + gN D) (.var (82 + gN D + 3)), ρ, ?_, fun a srt one two cp lv st ht => ?_, fun a ha => ?_⟩
  · have : 82 + gN (sN D (.inr (25, [])) 6) = 82 + gN D + 1 := by rw [gN_sN]; omega
    rw [this]
    refine h.1.new ⟨by decide, fun _ => upf_eq, fun z => ?_, fun z => ?_, fun z => ?_, fun z => ?_, fun z => ?_, fun z => ?_⟩ <;> cases z
  · have hne : ¬ a = 82 + gN D := fun z => by subst z; exact hno _ _ _ _ _ _ ht
    have ht' : TY D a srt one two cp lv st := by unfold TY at ht ⊢; rw [gO_sN, if_neg hne] at ht; exact ht
    obtain ⟨k1, k2⟩ := h.2.1 _ _ _ _ _ _ _ ht'
    refine ⟨by rw [gN_sN]; omega, ?_⟩
    unfold TK at k2 ⊢
    rw [upf_ne hne]
    simp only [hist]
    exact k2
  · by_cases hne : a = 82 + gN D
    · subst hne; rw [upf_eq]
    · rw [upf_ne hne]; exact h.2.2 a fun z => ha ((hist a).mpr z)
theorem UQ.bad (h : UQ D N tm L a b Q) (hn : ∀ V, VLs tm N V → V a = V b → ty_w (V a) ≤ 80 → False) (hH : TH D' G tm' ρ) (hf : UF D D') : Q (.inr (82 + gN D', 25)) (toH (sN D' (.inr (25, [])) 6)) := by
  obtain ⟨G', tm'', ρ', h'⟩ := hH.exc
  exact h.2 hn _ _ G' tm'' ρ' h' ⟨D', hf, rfl⟩
theorem UQ.same (h : UQ D (82 + gN D) tm L a b Q) (hH : TH D G tm ρ) (hL : LV D L) (ha : a < 82 + gN D) (hb : b < 82 + gN D) (he : tm a = tm b) : Q (.inl none) (toH D) :=
  h.1 D G tm ρ L hH hL UF.refl (SP.refl hH.sf) (fun V => ⟨fun hV => ⟨hV, by rw [hV a ha, hV b hb, he]⟩, fun z => z.1⟩) LSv.refl ⟨.inl rfl, fun c _ x hx => .inl hx⟩
/-- a variable and another type -/
theorem u_var (hU : UQ D (82 + gN D) tm L a b Q) (hH : TH D G tm ρ) (hL : LV D L) (hx : TY D x 0 none two cp lv st) (hyT : isT D y) (hy6 : ¬ (G y).1 = 6) (hxy : ¬ x = y) (ha : a < 82 + gN D) (hb : b < 82 + gN D) (hw : ty_w (tm y) ≤ 80) (hd : 83 ≤ d) (hcap : capok D 6)
    (hab : (tm a = tm x ∧ tm b = tm y) ∨ (tm a = tm y ∧ tm b = tm x)) (hng : ¬ L x = 1000) (hnt : ∀ u, ty_h u (tm y) → ¬ L u = 1000) :
    XW 54 d Q 60 [some (.ref c), some (.ref l), some (.ref x), some (.ref y)] [] (toH D) := by
  have hxl : x < 82 + gN D := (hH.2.1 _ _ _ _ _ _ _ hx).1
  have hyl : y < 82 + gN D := hH.lt hyT
  have hxv : tm x = .var (x + 3) := (hH.1 x hxl).2.1 ((hH.n6 hx (fun _ => rfl)).2 rfl)
  have hvv : ∀ V, VLs tm (82 + gN D) V → (V a = V b ↔ V x = ty_s V (tm y)) := by
    intro V hV
    have e1 : V x = ty_s V (tm x) := hV x hxl
    rcases hab with ⟨h1, h2⟩ | ⟨h1, h2⟩
    · rw [hV a ha, hV b hb, h1, h2, ← e1]
    · rw [hV a ha, hV b hb, h1, h2, ← e1]
      exact eq_comm
  simp only [x54_0, x54_1, x54_4, x54_5, x54_6, x54_9, x54_10, x54_11, x54_12, x54_15, x54_16, x54_17, x54_20, x54_21, x54_24, x54_25, x54_28, x54_31, x54_34, x54_35, x54_38, x54_41, x54_44, x54_45, x54_46, x54_49, x54_50, x54_51, x54_54, x54_57, x54_60, x54_61, x54_62, x54_65, x54_68, x54_76, x54_77, x54_78, x54_78a, x54_78n, x54_81, x54_82, x54_83, x54_86, x54_87, x54_90, x54_93, x54_101, x54_102, x54_105, x54_108, x54_111, x54_112, x54_115, x54_118, x54_121, x54_122, x54_125, x54_126, x54_129, x54_132, x54_133, x54_136, x54_139, x54_142, x54_143, x54_146, x54_147, x54_150, x54_153, gI_sI, gI_sR, gI_sA, gI_sL, gI_sF, gI_sQ, gI_sG, gI_sN, gR_sI, gR_sR, gR_sA, gR_sL, gR_sF, gR_sQ, gR_sG, gR_sN, gA_sI, gA_sR, gA_sA, gA_sL, gA_sF, gA_sQ, gA_sG, gA_sN, gL_sI, gL_sR, gL_sA, gL_sL, gL_sF, gL_sQ, gL_sG, gL_sN, gF_sI, gF_sR, gF_sA, gF_sL, gF_sF, gF_sQ, gF_sG, gF_sN, gQ_sI, gQ_sR, gQ_sA, gQ_sL, gQ_sF, gQ_sQ, gQ_sG, gQ_sN, gN_sI, gN_sR, gN_sA, gN_sL, gN_sF, gN_sQ, gN_sG, gN_sN, gS_sI, gS_sR, gS_sA, gS_sL, gS_sF, gS_sQ, gS_sG, gS_sN, gO_sI, gO_sR, gO_sA, gO_sL, gO_sF, gO_sQ, gO_sN, isR_ref, isR_null, isR_rf, isR2_ref, isR2_null, isR2_rf, am_k_int, am_k_ref, am_k_null, am_k_rf, am_k_none, am_k_long, am_k_double, rf_some, rf_none, KT_ret, KT_void, XP_ap, true_and, and_true, Nat.reduceAdd, Nat.reduceEqDiff, reduceIte, if_true, if_false, eq_self, true_or, or_true, forall_const, not_true_eq_false, not_false_eq_true]
  refine f_occ (G := G) (tm := tm) (ρ := ρ) (v := x) 80 y d D L _ hH hL hyT ⟨_, _, _, _, _, _, hx⟩ hw (by omega) (fun z D' L' hF => ?_) (fun z D' L' hF k1 k2 => ?_) hxv
  · simp only [x54_0, x54_1, x54_4, x54_5, x54_6, x54_9, x54_10, x54_11, x54_12, x54_15, x54_16, x54_17, x54_20, x54_21, x54_24, x54_25, x54_28, x54_31, x54_34, x54_35, x54_38, x54_41, x54_44, x54_45, x54_46, x54_49, x54_50, x54_51, x54_54, x54_57, x54_60, x54_61, x54_62, x54_65, x54_68, x54_76, x54_77, x54_78, x54_78a, x54_78n, x54_81, x54_82, x54_83, x54_86, x54_87, x54_90, x54_93, x54_101, x54_102, x54_105, x54_108, x54_111, x54_112, x54_115, x54_118, x54_121, x54_122, x54_125, x54_126, x54_129, x54_132, x54_133, x54_136, x54_139, x54_142, x54_143, x54_146, x54_147, x54_150, x54_153, gI_sI, gI_sR, gI_sA, gI_sL, gI_sF, gI_sQ, gI_sG, gI_sN, gR_sI, gR_sR, gR_sA, gR_sL, gR_sF, gR_sQ, gR_sG, gR_sN, gA_sI, gA_sR, gA_sA, gA_sL, gA_sF, gA_sQ, gA_sG, gA_sN, gL_sI, gL_sR, gL_sA, gL_sL, gL_sF, gL_sQ, gL_sG, gL_sN, gF_sI, gF_sR, gF_sA, gF_sL, gF_sF, gF_sQ, gF_sG, gF_sN, gQ_sI, gQ_sR, gQ_sA, gQ_sL, gQ_sF, gQ_sQ, gQ_sG, gQ_sN, gN_sI, gN_sR, gN_sA, gN_sL, gN_sF, gN_sQ, gN_sG, gN_sN, gS_sI, gS_sR, gS_sA, gS_sL, gS_sF, gS_sQ, gS_sG, gS_sN, gO_sI, gO_sR, gO_sA, gO_sL, gO_sF, gO_sQ, gO_sN, isR_ref, isR_null, isR_rf, isR2_ref, isR2_null, isR2_rf, am_k_int, am_k_ref, am_k_null, am_k_rf, am_k_none, am_k_long, am_k_double, rf_some, rf_none, KT_ret, KT_void, XP_ap, true_and, and_true, Nat.reduceAdd, Nat.reduceEqDiff, reduceIte, if_true, if_false, eq_self, true_or, or_true, forall_const, not_true_eq_false, not_false_eq_true, i_10, false_imp_iff, true_imp_iff, not_false_eq_true]
    refine ⟨hF.uf.cap hcap, hU.bad (fun V hV hVab _ => ?_) (hH.lvf hF) hF.uf⟩
    refine ty_cyc (V := V) z (fun e => hxy ?_) ((hvv V hV).mp hVab)
    obtain ⟨s1, s2, s3, s4, s5, s6, hyt⟩ := hyT
    have hz : ty_h x (tm y) := z
    -- a cell whose term is a variable, and that stands for itself, is that variable
    obtain ⟨hlt, hK⟩ := hH.2.1 _ _ _ _ _ _ _ hyt
    obtain ⟨h6, g0, g1, g2, g3, g4, g5, g7⟩ := hH.1 y hlt
    have hk : (G y).1 = 0 ∨ (G y).1 = 1 ∨ (G y).1 = 2 ∨ (G y).1 = 3 ∨ (G y).1 = 4 ∨ (G y).1 = 5 := by omega
    rcases hk with k | k | k | k | k | k
    · have := g0 k
      rw [this] at e
      have e := Lean.Grind.CommRing.Expr.var.inj e
      exact (Nat.add_right_cancel (show y + 3 = x + 3 from e)).symm
    · rw [g1 k] at e; have e := Lean.Grind.CommRing.Expr.var.inj e; exact absurd (show 0 = x + 3 from e) (by omega)
    · rw [g2 k] at e; have e := Lean.Grind.CommRing.Expr.var.inj e; exact absurd (show 1 = x + 3 from e) (by omega)
    · rw [g3 k] at e; have e := Lean.Grind.CommRing.Expr.var.inj e; exact absurd (show 2 = x + 3 from e) (by omega)
    · rw [(g4 k).2] at e; cases e
    · rw [(g5 k).2.2] at e; cases e
  · have hTx := hF.2.2 _ _ _ _ _ _ _ hx
    simp only [x54_0, x54_1, x54_4, x54_5, x54_6, x54_9, x54_10, x54_11, x54_12, x54_15, x54_16, x54_17, x54_20, x54_21, x54_24, x54_25, x54_28, x54_31, x54_34, x54_35, x54_38, x54_41, x54_44, x54_45, x54_46, x54_49, x54_50, x54_51, x54_54, x54_57, x54_60, x54_61, x54_62, x54_65, x54_68, x54_76, x54_77, x54_78, x54_78a, x54_78n, x54_81, x54_82, x54_83, x54_86, x54_87, x54_90, x54_93, x54_101, x54_102, x54_105, x54_108, x54_111, x54_112, x54_115, x54_118, x54_121, x54_122, x54_125, x54_126, x54_129, x54_132, x54_133, x54_136, x54_139, x54_142, x54_143, x54_146, x54_147, x54_150, x54_153, gI_sI, gI_sR, gI_sA, gI_sL, gI_sF, gI_sQ, gI_sG, gI_sN, gR_sI, gR_sR, gR_sA, gR_sL, gR_sF, gR_sQ, gR_sG, gR_sN, gA_sI, gA_sR, gA_sA, gA_sL, gA_sF, gA_sQ, gA_sG, gA_sN, gL_sI, gL_sR, gL_sA, gL_sL, gL_sF, gL_sQ, gL_sG, gL_sN, gF_sI, gF_sR, gF_sA, gF_sL, gF_sF, gF_sQ, gF_sG, gF_sN, gQ_sI, gQ_sR, gQ_sA, gQ_sL, gQ_sF, gQ_sQ, gQ_sG, gQ_sN, gN_sI, gN_sR, gN_sA, gN_sL, gN_sF, gN_sQ, gN_sG, gN_sN, gS_sI, gS_sR, gS_sA, gS_sL, gS_sF, gS_sQ, gS_sG, gS_sN, gO_sI, gO_sR, gO_sA, gO_sL, gO_sF, gO_sQ, gO_sN, isR_ref, isR_null, isR_rf, isR2_ref, isR2_null, isR2_rf, am_k_int, am_k_ref, am_k_null, am_k_rf, am_k_none, am_k_long, am_k_double, rf_some, rf_none, KT_ret, KT_void, XP_ap, true_and, and_true, Nat.reduceAdd, Nat.reduceEqDiff, reduceIte, if_true, if_false, eq_self, true_or, or_true, forall_const, not_true_eq_false, not_false_eq_true, i_10, false_imp_iff, true_imp_iff, not_false_eq_true]
    rw [pO_set hTx rfl (Nat.le_of_ble_eq_true rfl)]
    simp only [x54_0, x54_1, x54_4, x54_5, x54_6, x54_9, x54_10, x54_11, x54_12, x54_15, x54_16, x54_17, x54_20, x54_21, x54_24, x54_25, x54_28, x54_31, x54_34, x54_35, x54_38, x54_41, x54_44, x54_45, x54_46, x54_49, x54_50, x54_51, x54_54, x54_57, x54_60, x54_61, x54_62, x54_65, x54_68, x54_76, x54_77, x54_78, x54_78a, x54_78n, x54_81, x54_82, x54_83, x54_86, x54_87, x54_90, x54_93, x54_101, x54_102, x54_105, x54_108, x54_111, x54_112, x54_115, x54_118, x54_121, x54_122, x54_125, x54_126, x54_129, x54_132, x54_133, x54_136, x54_139, x54_142, x54_143, x54_146, x54_147, x54_150, x54_153, gI_sI, gI_sR, gI_sA, gI_sL, gI_sF, gI_sQ, gI_sG, gI_sN, gR_sI, gR_sR, gR_sA, gR_sL, gR_sF, gR_sQ, gR_sG, gR_sN, gA_sI, gA_sR, gA_sA, gA_sL, gA_sF, gA_sQ, gA_sG, gA_sN, gL_sI, gL_sR, gL_sA, gL_sL, gL_sF, gL_sQ, gL_sG, gL_sN, gF_sI, gF_sR, gF_sA, gF_sL, gF_sF, gF_sQ, gF_sG, gF_sN, gQ_sI, gQ_sR, gQ_sA, gQ_sL, gQ_sF, gQ_sQ, gQ_sG, gQ_sN, gN_sI, gN_sR, gN_sA, gN_sL, gN_sF, gN_sQ, gN_sG, gN_sN, gS_sI, gS_sR, gS_sA, gS_sL, gS_sF, gS_sQ, gS_sG, gS_sN, gO_sI, gO_sR, gO_sA, gO_sL, gO_sF, gO_sQ, gO_sN, isR_ref, isR_null, isR_rf, isR2_ref, isR2_null, isR2_rf, am_k_int, am_k_ref, am_k_null, am_k_rf, am_k_none, am_k_long, am_k_double, rf_some, rf_none, KT_ret, KT_void, XP_ap, true_and, and_true, Nat.reduceAdd, Nat.reduceEqDiff, reduceIte, if_true, if_false, eq_self, true_or, or_true, forall_const, not_true_eq_false, not_false_eq_true, List.set_cons_zero, List.set_cons_succ]
    have hH1 := hH.lvf hF
    obtain ⟨hB1, hB2⟩ := hH1.bind hTx (hF.ist.mpr hyT) hy6 z
    refine hU.1 _ _ _ _ L' hB1 ?_ (hF.uf.trans hB2) ?_ (fun V => ?_) ?_ ?_
    · intro a' srt' one' two' cp' lv' st' ht'
      by_cases hax : a' = x
      · subst hax
        unfold TY at ht'
        rw [gO_sG hTx, if_pos rfl] at ht'
        simp only [Option.some.injEq, Sum.inr.injEq, Prod.mk.injEq, List.cons.injEq, Value.int.injEq, true_and, and_true] at ht'
        exact ht'.2.2.2.2.1.symm
      · unfold TY at ht'
        rw [gO_sG hTx, if_neg hax] at ht'
        exact hF.lvl _ _ _ _ _ _ _ ht'
    · have hsp := SP.bind (g := gn L) hH.sf hxl hxv hyl z hng hnt
      have hls := LSv.bind (L := L) (L' := L') hH.sf hxl hxv hyl z k1 k2 hng hnt
      have e : gn L' = gn L := funext fun u => propext (hls.2.2 u)
      rw [e]
      exact hsp
    · rw [VLs.bind hxv hxl]
      exact ⟨fun ⟨h1, h2⟩ => ⟨h1, (hvv V h1).mpr h2⟩, fun ⟨h1, h2⟩ => ⟨h1, (hvv V h1).mp h2⟩⟩
    · exact LSv.bind hH.sf hxl hxv hyl z k1 k2 hng hnt
    · have hh : ∀ c u, ty_h u (ty_s (ty_1 x (tm y)) (tm c)) → (ty_h x (tm c) ∧ ty_h u (tm y)) ∨ (ty_h u (tm c) ∧ ¬ u = x) := by
        intro c u hu
        obtain ⟨w, h1, h2⟩ := ty_h_s.mp hu
        unfold ty_1 at h2
        split at h2
        · rename_i e; rw [e] at h1; exact .inl ⟨h1, h2⟩
        · rename_i e
          have e' : w + 3 = u + 3 := h2
          have e2 : w = u := by omega
          rw [e2] at h1 e; exact .inr ⟨h1, e⟩
      have hxin : ty_h x (tm x) := by rw [hxv]; rfl
      refine ⟨.inr ⟨x, ?_, fun c hc hu => ?_⟩, fun c hc u hu => ?_⟩
      · rcases hab with ⟨h1, _⟩ | ⟨_, h2⟩
        · exact .inl (by rw [h1]; exact hxin)
        · exact .inr (by rw [h2]; exact hxin)
      · rcases hh c x hu with ⟨_, h2⟩ | ⟨_, h2⟩
        · exact z h2
        · exact h2 rfl
      · rcases hh c u hu with ⟨_, h2⟩ | ⟨h2, _⟩
        · rcases hab with ⟨_, h1⟩ | ⟨h1, _⟩
          · exact .inr (.inr (by rw [h1]; exact h2))
          · exact .inr (.inl (by rw [h1]; exact h2))
        · exact .inl h2
end TD
