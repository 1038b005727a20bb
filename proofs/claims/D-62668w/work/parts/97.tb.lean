/-! FunDesk: whether a variable stands in a type; levels -/
set_option maxRecDepth 100000
def LV (D : sS) (L : Nat → Int32) : Prop := ∀ a srt one two cp lv st, TY D a srt one two cp lv st → lv = L a
/-- levels change alone -/
def LVF (D D' : sS) (L' : Nat → Int32) : Prop := (gI D' = gI D ∧ gR D' = gR D ∧ gA D' = gA D ∧ gL D' = gL D ∧ gF D' = gF D ∧ gQ D' = gQ D ∧ gN D' = gN D ∧ gS D' = gS D) ∧ (∀ b, ¬ isT D b → gG D' b = gG D b) ∧ ∀ b srt one two cp lv st, TY D b srt one two cp lv st → TY D' b srt one two cp (L' b) st
def mn (x y : Int32) : Int32 := if y < x then y else x
section TB
variable {d : Nat} {D D' D'' : sS} {Q : am_O → am_H → Prop} {a b c l srt N v : Nat} {G : tG} {tm : Nat → tE} {ρ : Nat → Nat} {one two cp r t : Option Nat} {lv st x : Int32} {L L' L'' : Nat → Int32}
theorem TY.hi (h : TY D a srt one two cp lv st) : isRec a = false := by
  unfold TY gO at h
  split at h
  · cases h
  · rename_i h'; exact Bool.not_eq_true _ ▸ h'
theorem LVF.ist (h : LVF D D' L') : isT D' b ↔ isT D b := by
  constructor
  · intro hb
    refine Classical.byContradiction fun hn => ?_
    have e : gO D' b = gO D b := by unfold gO; rw [h.2.1 b hn]
    obtain ⟨srt, one, two, cp, lv, st, ht⟩ := hb
    unfold TY at ht
    rw [e] at ht
    exact hn ⟨srt, one, two, cp, lv, st, ht⟩
  · rintro ⟨srt, one, two, cp, lv, st, ht⟩
    exact ⟨_, _, _, _, _, _, h.2.2 _ _ _ _ _ _ _ ht⟩
theorem LVF.ty (h : LVF D D' L') (ht : TY D' b srt one two cp lv st) : ∃ lv', TY D b srt one two cp lv' st ∧ lv = L' b := by
  obtain ⟨srt', one', two', cp', lv', st', ht'⟩ := h.ist.mp ⟨_, _, _, _, _, _, ht⟩
  have h2 := h.2.2 _ _ _ _ _ _ _ ht'
  obtain ⟨e1, e2, e3, e4, e5, e6⟩ := ht.eq h2
  subst e1 e2 e3 e4 e6
  exact ⟨lv', ht', e5⟩
theorem LVF.lvl (h : LVF D D' L') : LV D' L' := fun a srt one two cp lv st ht => by obtain ⟨_, _, e⟩ := h.ty ht; exact e
theorem LVF.refl (h : LV D L) : LVF D D L := ⟨⟨rfl, rfl, rfl, rfl, rfl, rfl, rfl, rfl⟩, fun _ _ => rfl, fun b srt one two cp lv st ht => by rw [← h _ _ _ _ _ _ _ ht]; exact ht⟩
theorem LVF.trans (h : LVF D D' L') (h' : LVF D' D'' L'') : LVF D D'' L'' := by
  obtain ⟨⟨a1, a2, a3, a4, a5, a6, a7, a8⟩, a9, a10⟩ := h
  obtain ⟨⟨b1, b2, b3, b4, b5, b6, b7, b8⟩, b9, b10⟩ := h'
  refine ⟨⟨b1.trans a1, b2.trans a2, b3.trans a3, b4.trans a4, b5.trans a5, b6.trans a6, b7.trans a7, b8.trans a8⟩, fun b hb => ?_, fun b srt one two cp lv st ht => b10 _ _ _ _ _ _ _ (a10 _ _ _ _ _ _ _ ht)⟩
  have hh : LVF D D' L' := ⟨⟨a1, a2, a3, a4, a5, a6, a7, a8⟩, a9, a10⟩
  exact (b9 b (fun z => hb (hh.ist.mp z))).trans (a9 b hb)
theorem TH.lvf (h : TH D G tm ρ) (hf : LVF D D' L') : TH D' G tm ρ := by
  have hN : gN D' = gN D := hf.1.2.2.2.2.2.2.1
  refine ⟨by rw [hN]; exact h.1, fun a srt one two cp lv st ht => ?_, fun a ha => h.2.2 a (fun z => ha (hf.ist.mpr z))⟩
  obtain ⟨lv', ht', _⟩ := hf.ty ht
  obtain ⟨h1, h2⟩ := h.2.1 _ _ _ _ _ _ _ ht'
  refine ⟨by rw [hN]; exact h1, ?_⟩
  unfold TK at h2 ⊢
  simp only [hf.ist]
  exact h2
theorem LVF.w1 (hL : LV D L) (ht : TY D a srt one two cp lv st) : LVF D (sG D a (.inr (2, [.ref srt, va_rf one, va_rf two, va_rf cp, .int x, .int st]))) (upf L a x) := by
  refine ⟨⟨rfl, rfl, rfl, rfl, rfl, rfl, rfl, rfl⟩, fun b hb => ?_, fun b srt' one' two' cp' lv' st' ht' => ?_⟩
  · have hne : ¬ b = a := fun z => hb (z ▸ ⟨_, _, _, _, _, _, ht⟩)
    show (if b = a then _ else _) = _
    rw [if_neg hne]
    rfl
  · unfold TY at *
    rw [gO_sG ht]
    by_cases hba : b = a
    · subst hba
      obtain ⟨e1, e2, e3, e4, e5, e6⟩ := TY.eq ht ht'
      subst e1 e2 e3 e4 e6
      rw [if_pos rfl, upf_eq]
    · rw [if_neg hba, upf_ne hba]
      rw [← hL _ _ _ _ _ _ _ ht']
      exact ht'
theorem mn_mn {y : Int32} : mn (mn x y) y = mn x y := by
  unfold mn
  by_cases h : y < x
  · rw [if_pos h, if_neg (Int32.lt_irrefl)]
  · rw [if_neg h, if_neg h]
theorem pO_set {ci k : Nat} {fs : List Value} {w : Value} {K : sS → Prop} (h : gO D a = some (.inr (ci, fs))) (hl : fs.length = am_nf ci) (hv : k < fs.length) : pO D a ci k w K ↔ K (sG D a (.inr (ci, fs.set k w))) := pO_of h hl hv
/-- whether a variable stands in a type -/
theorem f_occ : ∀ (w a d : Nat) (D : sS) (L : Nat → Int32) (Q : am_O → am_H → Prop), TH D G tm ρ → LV D L → isT D a → isT D v → ty_w (tm a) ≤ w → w + 2 ≤ d → (ty_h v (tm a) → ∀ D' L', LVF D D' L' → Q (.inl (some (.int 1))) (toH D')) → (¬ ty_h v (tm a) → ∀ D' L', LVF D D' L' → (∀ u, ty_h u (tm a) → L' u = mn (L u) (L v)) → (∀ u, ¬ ty_h u (tm a) → L' u = L u) → Q (.inl (some (.int 0))) (toH D')) → tm v = .var (v + 3) → AC d 57 [.ref v, .ref a] (toH D) Q := by
  intro w
  induction w with
  | zero => intro a d D L Q _ _ _ _ hw; have := ty_w1 (t := tm a); omega
  | succ w ih =>
    intro a d D L Q hH hL ha hv hw hd h1 h0 hvv
    refine AC.pos hd fun d' hd' => ?_
    rw [e57 rfl rfl]
    simp only [x57_0, x57_1, x57_4, x57_5, x57_6, x57_7, x57_10, x57_11, x57_12, x57_13, x57_16, x57_19, x57_22, x57_23, x57_24, x57_27, x57_28, x57_31, x57_34, x57_37, x57_38, x57_41, x57_44, x57_47, x57_48, x57_49, x57_52, x57_55, x57_58, x57_59, x57_62, x57_65, x57_68, x57_69, x57_70, x57_73, x57_76, x57_79, x57_80, x57_81, x57_84, x57_87, x57_90, x57_91, x57_94, x57_95, gI_sI, gI_sR, gI_sA, gI_sL, gI_sF, gI_sQ, gI_sG, gI_sN, gR_sI, gR_sR, gR_sA, gR_sL, gR_sF, gR_sQ, gR_sG, gR_sN, gA_sI, gA_sR, gA_sA, gA_sL, gA_sF, gA_sQ, gA_sG, gA_sN, gL_sI, gL_sR, gL_sA, gL_sL, gL_sF, gL_sQ, gL_sG, gL_sN, gF_sI, gF_sR, gF_sA, gF_sL, gF_sF, gF_sQ, gF_sG, gF_sN, gQ_sI, gQ_sR, gQ_sA, gQ_sL, gQ_sF, gQ_sQ, gQ_sG, gQ_sN, gN_sI, gN_sR, gN_sA, gN_sL, gN_sF, gN_sQ, gN_sG, gN_sN, gS_sI, gS_sR, gS_sA, gS_sL, gS_sF, gS_sQ, gS_sG, gS_sN, gO_sI, gO_sR, gO_sA, gO_sL, gO_sF, gO_sQ, gO_sN, isR_ref, isR_null, isR_rf, isR2_ref, isR2_null, isR2_rf, am_k_int, am_k_ref, am_k_null, am_k_rf, am_k_none, am_k_long, am_k_double, rf_some, rf_none, KT_ret, KT_void, XP_ap, true_and, and_true, Nat.reduceAdd, Nat.reduceEqDiff, reduceIte, if_true, if_false, eq_self, true_or, or_true, forall_const, not_true_eq_false, not_false_eq_true]
    refine ⟨isT.co ha, f_real hH ha (by omega) fun r srt one two cp lv st ht hr hRL => ?_⟩
    rw [← hr] at h1 h0 hw
    have hf0 : ∀ K, fO D r 2 0 K ↔ K (.ref srt) := fun K => fO_of ht rfl rfl
    have hf1 : ∀ K, fO D r 2 1 K ↔ K (va_rf one) := fun K => fO_of ht rfl rfl
    have hf2 : ∀ K, fO D r 2 2 K ↔ K (va_rf two) := fun K => fO_of ht rfl rfl
    have hf4 : ∀ K, fO D r 2 4 K ↔ K (.int lv) := fun K => fO_of ht rfl rfl
    obtain ⟨vs, v1, v2, v3, v4, v5, hvt⟩ := hv
    have hg4 : ∀ K, fO D v 2 4 K ↔ K (.int v4) := fun K => fO_of hvt rfl rfl
    have hvL : v4 = L v := hL _ _ _ _ _ _ _ hvt
    have hrL : lv = L r := hL _ _ _ _ _ _ _ ht
    have hp4 : ∀ (y : Value) K, pO D r 2 4 y K ↔ K (sG D r (.inr (2, [.ref srt, va_rf one, va_rf two, va_rf cp, y, .int st]))) := fun y K => pO_set ht rfl (Nat.le_of_ble_eq_true rfl)
    simp only [x57_0, x57_1, x57_4, x57_5, x57_6, x57_7, x57_10, x57_11, x57_12, x57_13, x57_16, x57_19, x57_22, x57_23, x57_24, x57_27, x57_28, x57_31, x57_34, x57_37, x57_38, x57_41, x57_44, x57_47, x57_48, x57_49, x57_52, x57_55, x57_58, x57_59, x57_62, x57_65, x57_68, x57_69, x57_70, x57_73, x57_76, x57_79, x57_80, x57_81, x57_84, x57_87, x57_90, x57_91, x57_94, x57_95, gI_sI, gI_sR, gI_sA, gI_sL, gI_sF, gI_sQ, gI_sG, gI_sN, gR_sI, gR_sR, gR_sA, gR_sL, gR_sF, gR_sQ, gR_sG, gR_sN, gA_sI, gA_sR, gA_sA, gA_sL, gA_sF, gA_sQ, gA_sG, gA_sN, gL_sI, gL_sR, gL_sA, gL_sL, gL_sF, gL_sQ, gL_sG, gL_sN, gF_sI, gF_sR, gF_sA, gF_sL, gF_sF, gF_sQ, gF_sG, gF_sN, gQ_sI, gQ_sR, gQ_sA, gQ_sL, gQ_sF, gQ_sQ, gQ_sG, gQ_sN, gN_sI, gN_sR, gN_sA, gN_sL, gN_sF, gN_sQ, gN_sG, gN_sN, gS_sI, gS_sR, gS_sA, gS_sL, gS_sF, gS_sQ, gS_sG, gS_sN, gO_sI, gO_sR, gO_sA, gO_sL, gO_sF, gO_sQ, gO_sN, isR_ref, isR_null, isR_rf, isR2_ref, isR2_null, isR2_rf, am_k_int, am_k_ref, am_k_null, am_k_rf, am_k_none, am_k_long, am_k_double, rf_some, rf_none, KT_ret, KT_void, XP_ap, true_and, and_true, Nat.reduceAdd, Nat.reduceEqDiff, reduceIte, if_true, if_false, eq_self, true_or, or_true, forall_const, not_true_eq_false, not_false_eq_true, hf0, Value.ref.injEq]
    refine ⟨fun hrv => ?_, fun hrv => ?_⟩
    · have base : (∀ u, ¬ ty_h u (tm r)) → Q (.inl (some (.int 0))) (toH D) := fun hn => h0 (hn v) D L (LVF.refl hL) (fun u hu => absurd hu (hn u)) (fun u _ => rfl)
      have two1 : ∀ (e : tE), e = .var 0 ∨ e = .var 1 ∨ e = .var 2 → ∀ u, ¬ ty_h u e := by
        rintro e (rfl | rfl | rfl) u z
        · have z : 0 = u + 3 := z; omega
        · have z : 1 = u + 3 := z; omega
        · have z : 2 = u + 3 := z; omega
      rcases hRL with ⟨rfl, e0, e1⟩ | ⟨rfl, e1⟩ | ⟨rfl, e1⟩ | ⟨rfl, e1⟩ | ⟨rfl, b, e0, e2, e3⟩ | ⟨rfl, b, c, e0, e0', e3, e4, e5⟩
      · have hnh : ¬ ty_h v (tm r) := by
          rw [e1]
          intro z
          exact hrv (Nat.add_right_cancel (show r + 3 = v + 3 from z))
        have hF : LVF D (sG D r (.inr (2, [.ref 0, va_rf one, va_rf two, va_rf cp, .int (if v4 < lv then v4 else lv), .int st]))) (upf L r (if v4 < lv then v4 else lv)) := LVF.w1 hL ht
        have hTY := hF.2.2 _ _ _ _ _ _ _ ht
        have hq0 : ∀ K, fO (sG D r (.inr (2, [.ref 0, va_rf one, va_rf two, va_rf cp, .int (if v4 < lv then v4 else lv), .int st]))) r 2 0 K ↔ K (.ref 0) := fun K => fO_of hTY rfl rfl
        simp only [x57_0, x57_1, x57_4, x57_5, x57_6, x57_7, x57_10, x57_11, x57_12, x57_13, x57_16, x57_19, x57_22, x57_23, x57_24, x57_27, x57_28, x57_31, x57_34, x57_37, x57_38, x57_41, x57_44, x57_47, x57_48, x57_49, x57_52, x57_55, x57_58, x57_59, x57_62, x57_65, x57_68, x57_69, x57_70, x57_73, x57_76, x57_79, x57_80, x57_81, x57_84, x57_87, x57_90, x57_91, x57_94, x57_95, gI_sI, gI_sR, gI_sA, gI_sL, gI_sF, gI_sQ, gI_sG, gI_sN, gR_sI, gR_sR, gR_sA, gR_sL, gR_sF, gR_sQ, gR_sG, gR_sN, gA_sI, gA_sR, gA_sA, gA_sL, gA_sF, gA_sQ, gA_sG, gA_sN, gL_sI, gL_sR, gL_sA, gL_sL, gL_sF, gL_sQ, gL_sG, gL_sN, gF_sI, gF_sR, gF_sA, gF_sL, gF_sF, gF_sQ, gF_sG, gF_sN, gQ_sI, gQ_sR, gQ_sA, gQ_sL, gQ_sF, gQ_sQ, gQ_sG, gQ_sN, gN_sI, gN_sR, gN_sA, gN_sL, gN_sF, gN_sQ, gN_sG, gN_sN, gS_sI, gS_sR, gS_sA, gS_sL, gS_sF, gS_sQ, gS_sG, gS_sN, gO_sI, gO_sR, gO_sA, gO_sL, gO_sF, gO_sQ, gO_sN, isR_ref, isR_null, isR_rf, isR2_ref, isR2_null, isR2_rf, am_k_int, am_k_ref, am_k_null, am_k_rf, am_k_none, am_k_long, am_k_double, rf_some, rf_none, KT_ret, KT_void, XP_ap, true_and, and_true, Nat.reduceAdd, Nat.reduceEqDiff, reduceIte, if_true, if_false, eq_self, true_or, or_true, forall_const, not_true_eq_false, not_false_eq_true, hf0, hf4, hg4, hp4, hq0, Value.ref.injEq, false_imp_iff, true_imp_iff]
        refine h0 hnh _ _ hF (fun u hu => ?_) (fun u hu => ?_)
        · rw [e1] at hu
          have hu : r = u := Nat.add_right_cancel (show r + 3 = u + 3 from hu)
          subst hu
          rw [upf_eq, hrL, hvL]
          rfl
        · rw [upf_ne (fun z => hu (by rw [e1, z]; rfl))]
      · exact ⟨fun _ => ⟨fun _ => ⟨fun _ => base (two1 _ (.inl e1)), fun z => absurd z (by decide)⟩, fun z => absurd z (by decide)⟩, fun z => absurd z (by decide)⟩
      · exact ⟨fun _ => ⟨fun _ => ⟨fun _ => base (two1 _ (.inr (.inl e1))), fun z => absurd z (by decide)⟩, fun z => absurd z (by decide)⟩, fun z => absurd z (by decide)⟩
      · exact ⟨fun _ => ⟨fun _ => ⟨fun _ => base (two1 _ (.inr (.inr e1))), fun z => absurd z (by decide)⟩, fun z => absurd z (by decide)⟩, fun z => absurd z (by decide)⟩
      · subst e0
        have hwb : ty_w (tm b) + 2 ≤ w + 1 := by rw [e3] at hw; exact hw
        have hh : ∀ u, ty_h u (tm r) ↔ ty_h u (tm b) := fun u => by rw [e3]; rfl
        simp only [x57_0, x57_1, x57_4, x57_5, x57_6, x57_7, x57_10, x57_11, x57_12, x57_13, x57_16, x57_19, x57_22, x57_23, x57_24, x57_27, x57_28, x57_31, x57_34, x57_37, x57_38, x57_41, x57_44, x57_47, x57_48, x57_49, x57_52, x57_55, x57_58, x57_59, x57_62, x57_65, x57_68, x57_69, x57_70, x57_73, x57_76, x57_79, x57_80, x57_81, x57_84, x57_87, x57_90, x57_91, x57_94, x57_95, gI_sI, gI_sR, gI_sA, gI_sL, gI_sF, gI_sQ, gI_sG, gI_sN, gR_sI, gR_sR, gR_sA, gR_sL, gR_sF, gR_sQ, gR_sG, gR_sN, gA_sI, gA_sR, gA_sA, gA_sL, gA_sF, gA_sQ, gA_sG, gA_sN, gL_sI, gL_sR, gL_sA, gL_sL, gL_sF, gL_sQ, gL_sG, gL_sN, gF_sI, gF_sR, gF_sA, gF_sL, gF_sF, gF_sQ, gF_sG, gF_sN, gQ_sI, gQ_sR, gQ_sA, gQ_sL, gQ_sF, gQ_sQ, gQ_sG, gQ_sN, gN_sI, gN_sR, gN_sA, gN_sL, gN_sF, gN_sQ, gN_sG, gN_sN, gS_sI, gS_sR, gS_sA, gS_sL, gS_sF, gS_sQ, gS_sG, gS_sN, gO_sI, gO_sR, gO_sA, gO_sL, gO_sF, gO_sQ, gO_sN, isR_ref, isR_null, isR_rf, isR2_ref, isR2_null, isR2_rf, am_k_int, am_k_ref, am_k_null, am_k_rf, am_k_none, am_k_long, am_k_double, rf_some, rf_none, KT_ret, KT_void, XP_ap, true_and, and_true, Nat.reduceAdd, Nat.reduceEqDiff, reduceIte, if_true, if_false, eq_self, true_or, or_true, forall_const, not_true_eq_false, not_false_eq_true, hf0, hf1, Value.ref.injEq, false_imp_iff, true_imp_iff]
        refine ih b d' D L _ hH hL e2 ⟨_, _, _, _, _, _, hvt⟩ (by omega) (by omega) (fun z D' L' hF => ?_) (fun z D' L' hF k1 k2 => ?_) hvv
        · simp only [x57_0, x57_1, x57_4, x57_5, x57_6, x57_7, x57_10, x57_11, x57_12, x57_13, x57_16, x57_19, x57_22, x57_23, x57_24, x57_27, x57_28, x57_31, x57_34, x57_37, x57_38, x57_41, x57_44, x57_47, x57_48, x57_49, x57_52, x57_55, x57_58, x57_59, x57_62, x57_65, x57_68, x57_69, x57_70, x57_73, x57_76, x57_79, x57_80, x57_81, x57_84, x57_87, x57_90, x57_91, x57_94, x57_95, gI_sI, gI_sR, gI_sA, gI_sL, gI_sF, gI_sQ, gI_sG, gI_sN, gR_sI, gR_sR, gR_sA, gR_sL, gR_sF, gR_sQ, gR_sG, gR_sN, gA_sI, gA_sR, gA_sA, gA_sL, gA_sF, gA_sQ, gA_sG, gA_sN, gL_sI, gL_sR, gL_sA, gL_sL, gL_sF, gL_sQ, gL_sG, gL_sN, gF_sI, gF_sR, gF_sA, gF_sL, gF_sF, gF_sQ, gF_sG, gF_sN, gQ_sI, gQ_sR, gQ_sA, gQ_sL, gQ_sF, gQ_sQ, gQ_sG, gQ_sN, gN_sI, gN_sR, gN_sA, gN_sL, gN_sF, gN_sQ, gN_sG, gN_sN, gS_sI, gS_sR, gS_sA, gS_sL, gS_sF, gS_sQ, gS_sG, gS_sN, gO_sI, gO_sR, gO_sA, gO_sL, gO_sF, gO_sQ, gO_sN, isR_ref, isR_null, isR_rf, isR2_ref, isR2_null, isR2_rf, am_k_int, am_k_ref, am_k_null, am_k_rf, am_k_none, am_k_long, am_k_double, rf_some, rf_none, KT_ret, KT_void, XP_ap, true_and, and_true, Nat.reduceAdd, Nat.reduceEqDiff, reduceIte, if_true, if_false, eq_self, true_or, or_true, forall_const, not_true_eq_false, not_false_eq_true, i_10, false_imp_iff, true_imp_iff, not_false_eq_true]
          exact h1 ((hh v).mpr z) D' L' hF
        · have hTY := hF.2.2 _ _ _ _ _ _ _ ht
          have hq0 : ∀ K, fO D' r 2 0 K ↔ K (.ref 4) := fun K => fO_of hTY rfl rfl
          simp only [x57_0, x57_1, x57_4, x57_5, x57_6, x57_7, x57_10, x57_11, x57_12, x57_13, x57_16, x57_19, x57_22, x57_23, x57_24, x57_27, x57_28, x57_31, x57_34, x57_37, x57_38, x57_41, x57_44, x57_47, x57_48, x57_49, x57_52, x57_55, x57_58, x57_59, x57_62, x57_65, x57_68, x57_69, x57_70, x57_73, x57_76, x57_79, x57_80, x57_81, x57_84, x57_87, x57_90, x57_91, x57_94, x57_95, gI_sI, gI_sR, gI_sA, gI_sL, gI_sF, gI_sQ, gI_sG, gI_sN, gR_sI, gR_sR, gR_sA, gR_sL, gR_sF, gR_sQ, gR_sG, gR_sN, gA_sI, gA_sR, gA_sA, gA_sL, gA_sF, gA_sQ, gA_sG, gA_sN, gL_sI, gL_sR, gL_sA, gL_sL, gL_sF, gL_sQ, gL_sG, gL_sN, gF_sI, gF_sR, gF_sA, gF_sL, gF_sF, gF_sQ, gF_sG, gF_sN, gQ_sI, gQ_sR, gQ_sA, gQ_sL, gQ_sF, gQ_sQ, gQ_sG, gQ_sN, gN_sI, gN_sR, gN_sA, gN_sL, gN_sF, gN_sQ, gN_sG, gN_sN, gS_sI, gS_sR, gS_sA, gS_sL, gS_sF, gS_sQ, gS_sG, gS_sN, gO_sI, gO_sR, gO_sA, gO_sL, gO_sF, gO_sQ, gO_sN, isR_ref, isR_null, isR_rf, isR2_ref, isR2_null, isR2_rf, am_k_int, am_k_ref, am_k_null, am_k_rf, am_k_none, am_k_long, am_k_double, rf_some, rf_none, KT_ret, KT_void, XP_ap, true_and, and_true, Nat.reduceAdd, Nat.reduceEqDiff, reduceIte, if_true, if_false, eq_self, true_or, or_true, forall_const, not_true_eq_false, not_false_eq_true, hq0, Value.ref.injEq, i_10, false_imp_iff, true_imp_iff, not_false_eq_true]
          exact h0 (fun y => z ((hh v).mp y)) D' L' hF (fun u hu => k1 u ((hh u).mp hu)) (fun u hu => k2 u (fun y => hu ((hh u).mpr y)))
      · subst e0 e0'
        have hwb : ty_w (tm b) + ty_w (tm c) + 3 ≤ w + 1 := by rw [e5] at hw; exact hw
        have hh : ∀ u, ty_h u (tm r) ↔ ty_h u (tm b) ∨ ty_h u (tm c) := fun u => by rw [e5]; rfl
        simp only [x57_0, x57_1, x57_4, x57_5, x57_6, x57_7, x57_10, x57_11, x57_12, x57_13, x57_16, x57_19, x57_22, x57_23, x57_24, x57_27, x57_28, x57_31, x57_34, x57_37, x57_38, x57_41, x57_44, x57_47, x57_48, x57_49, x57_52, x57_55, x57_58, x57_59, x57_62, x57_65, x57_68, x57_69, x57_70, x57_73, x57_76, x57_79, x57_80, x57_81, x57_84, x57_87, x57_90, x57_91, x57_94, x57_95, gI_sI, gI_sR, gI_sA, gI_sL, gI_sF, gI_sQ, gI_sG, gI_sN, gR_sI, gR_sR, gR_sA, gR_sL, gR_sF, gR_sQ, gR_sG, gR_sN, gA_sI, gA_sR, gA_sA, gA_sL, gA_sF, gA_sQ, gA_sG, gA_sN, gL_sI, gL_sR, gL_sA, gL_sL, gL_sF, gL_sQ, gL_sG, gL_sN, gF_sI, gF_sR, gF_sA, gF_sL, gF_sF, gF_sQ, gF_sG, gF_sN, gQ_sI, gQ_sR, gQ_sA, gQ_sL, gQ_sF, gQ_sQ, gQ_sG, gQ_sN, gN_sI, gN_sR, gN_sA, gN_sL, gN_sF, gN_sQ, gN_sG, gN_sN, gS_sI, gS_sR, gS_sA, gS_sL, gS_sF, gS_sQ, gS_sG, gS_sN, gO_sI, gO_sR, gO_sA, gO_sL, gO_sF, gO_sQ, gO_sN, isR_ref, isR_null, isR_rf, isR2_ref, isR2_null, isR2_rf, am_k_int, am_k_ref, am_k_null, am_k_rf, am_k_none, am_k_long, am_k_double, rf_some, rf_none, KT_ret, KT_void, XP_ap, true_and, and_true, Nat.reduceAdd, Nat.reduceEqDiff, reduceIte, if_true, if_false, eq_self, true_or, or_true, forall_const, not_true_eq_false, not_false_eq_true, hf0, hf1, hf2, Value.ref.injEq, false_imp_iff, true_imp_iff]
        refine ih b d' D L _ hH hL e3 ⟨_, _, _, _, _, _, hvt⟩ (by omega) (by omega) (fun z D' L' hF => ?_) (fun z D' L' hF k1 k2 => ?_) hvv
        · simp only [x57_0, x57_1, x57_4, x57_5, x57_6, x57_7, x57_10, x57_11, x57_12, x57_13, x57_16, x57_19, x57_22, x57_23, x57_24, x57_27, x57_28, x57_31, x57_34, x57_37, x57_38, x57_41, x57_44, x57_47, x57_48, x57_49, x57_52, x57_55, x57_58, x57_59, x57_62, x57_65, x57_68, x57_69, x57_70, x57_73, x57_76, x57_79, x57_80, x57_81, x57_84, x57_87, x57_90, x57_91, x57_94, x57_95, gI_sI, gI_sR, gI_sA, gI_sL, gI_sF, gI_sQ, gI_sG, gI_sN, gR_sI, gR_sR, gR_sA, gR_sL, gR_sF, gR_sQ, gR_sG, gR_sN, gA_sI, gA_sR, gA_sA, gA_sL, gA_sF, gA_sQ, gA_sG, gA_sN, gL_sI, gL_sR, gL_sA, gL_sL, gL_sF, gL_sQ, gL_sG, gL_sN, gF_sI, gF_sR, gF_sA, gF_sL, gF_sF, gF_sQ, gF_sG, gF_sN, gQ_sI, gQ_sR, gQ_sA, gQ_sL, gQ_sF, gQ_sQ, gQ_sG, gQ_sN, gN_sI, gN_sR, gN_sA, gN_sL, gN_sF, gN_sQ, gN_sG, gN_sN, gS_sI, gS_sR, gS_sA, gS_sL, gS_sF, gS_sQ, gS_sG, gS_sN, gO_sI, gO_sR, gO_sA, gO_sL, gO_sF, gO_sQ, gO_sN, isR_ref, isR_null, isR_rf, isR2_ref, isR2_null, isR2_rf, am_k_int, am_k_ref, am_k_null, am_k_rf, am_k_none, am_k_long, am_k_double, rf_some, rf_none, KT_ret, KT_void, XP_ap, true_and, and_true, Nat.reduceAdd, Nat.reduceEqDiff, reduceIte, if_true, if_false, eq_self, true_or, or_true, forall_const, not_true_eq_false, not_false_eq_true, i_10, false_imp_iff, true_imp_iff, not_false_eq_true]
          exact h1 ((hh v).mpr (.inl z)) D' L' hF
        · have hTY := hF.2.2 _ _ _ _ _ _ _ ht
          have hq2 : ∀ K, fO D' r 2 2 K ↔ K (va_rf (some c)) := fun K => fO_of hTY rfl rfl
          simp only [x57_0, x57_1, x57_4, x57_5, x57_6, x57_7, x57_10, x57_11, x57_12, x57_13, x57_16, x57_19, x57_22, x57_23, x57_24, x57_27, x57_28, x57_31, x57_34, x57_37, x57_38, x57_41, x57_44, x57_47, x57_48, x57_49, x57_52, x57_55, x57_58, x57_59, x57_62, x57_65, x57_68, x57_69, x57_70, x57_73, x57_76, x57_79, x57_80, x57_81, x57_84, x57_87, x57_90, x57_91, x57_94, x57_95, gI_sI, gI_sR, gI_sA, gI_sL, gI_sF, gI_sQ, gI_sG, gI_sN, gR_sI, gR_sR, gR_sA, gR_sL, gR_sF, gR_sQ, gR_sG, gR_sN, gA_sI, gA_sR, gA_sA, gA_sL, gA_sF, gA_sQ, gA_sG, gA_sN, gL_sI, gL_sR, gL_sA, gL_sL, gL_sF, gL_sQ, gL_sG, gL_sN, gF_sI, gF_sR, gF_sA, gF_sL, gF_sF, gF_sQ, gF_sG, gF_sN, gQ_sI, gQ_sR, gQ_sA, gQ_sL, gQ_sF, gQ_sQ, gQ_sG, gQ_sN, gN_sI, gN_sR, gN_sA, gN_sL, gN_sF, gN_sQ, gN_sG, gN_sN, gS_sI, gS_sR, gS_sA, gS_sL, gS_sF, gS_sQ, gS_sG, gS_sN, gO_sI, gO_sR, gO_sA, gO_sL, gO_sF, gO_sQ, gO_sN, isR_ref, isR_null, isR_rf, isR2_ref, isR2_null, isR2_rf, am_k_int, am_k_ref, am_k_null, am_k_rf, am_k_none, am_k_long, am_k_double, rf_some, rf_none, KT_ret, KT_void, XP_ap, true_and, and_true, Nat.reduceAdd, Nat.reduceEqDiff, reduceIte, if_true, if_false, eq_self, true_or, or_true, forall_const, not_true_eq_false, not_false_eq_true, hq2, Value.ref.injEq, i_10, false_imp_iff, true_imp_iff, not_false_eq_true]
          have hL'v : L' v = L v := k2 v z
          refine ih c d' D' L' _ (hH.lvf hF) hF.lvl (hF.ist.mpr e4) (hF.ist.mpr ⟨_, _, _, _, _, _, hvt⟩) (by omega) (by omega) (fun z2 D2 L2 hF2 => ?_) (fun z2 D2 L2 hF2 m1 m2 => ?_) hvv
          · simp only [x57_0, x57_1, x57_4, x57_5, x57_6, x57_7, x57_10, x57_11, x57_12, x57_13, x57_16, x57_19, x57_22, x57_23, x57_24, x57_27, x57_28, x57_31, x57_34, x57_37, x57_38, x57_41, x57_44, x57_47, x57_48, x57_49, x57_52, x57_55, x57_58, x57_59, x57_62, x57_65, x57_68, x57_69, x57_70, x57_73, x57_76, x57_79, x57_80, x57_81, x57_84, x57_87, x57_90, x57_91, x57_94, x57_95, gI_sI, gI_sR, gI_sA, gI_sL, gI_sF, gI_sQ, gI_sG, gI_sN, gR_sI, gR_sR, gR_sA, gR_sL, gR_sF, gR_sQ, gR_sG, gR_sN, gA_sI, gA_sR, gA_sA, gA_sL, gA_sF, gA_sQ, gA_sG, gA_sN, gL_sI, gL_sR, gL_sA, gL_sL, gL_sF, gL_sQ, gL_sG, gL_sN, gF_sI, gF_sR, gF_sA, gF_sL, gF_sF, gF_sQ, gF_sG, gF_sN, gQ_sI, gQ_sR, gQ_sA, gQ_sL, gQ_sF, gQ_sQ, gQ_sG, gQ_sN, gN_sI, gN_sR, gN_sA, gN_sL, gN_sF, gN_sQ, gN_sG, gN_sN, gS_sI, gS_sR, gS_sA, gS_sL, gS_sF, gS_sQ, gS_sG, gS_sN, gO_sI, gO_sR, gO_sA, gO_sL, gO_sF, gO_sQ, gO_sN, isR_ref, isR_null, isR_rf, isR2_ref, isR2_null, isR2_rf, am_k_int, am_k_ref, am_k_null, am_k_rf, am_k_none, am_k_long, am_k_double, rf_some, rf_none, KT_ret, KT_void, XP_ap, true_and, and_true, Nat.reduceAdd, Nat.reduceEqDiff, reduceIte, if_true, if_false, eq_self, true_or, or_true, forall_const, not_true_eq_false, not_false_eq_true, i_10, false_imp_iff, true_imp_iff, not_false_eq_true]
            exact h1 ((hh v).mpr (.inr z2)) D2 L2 (hF.trans hF2)
          · simp only [x57_0, x57_1, x57_4, x57_5, x57_6, x57_7, x57_10, x57_11, x57_12, x57_13, x57_16, x57_19, x57_22, x57_23, x57_24, x57_27, x57_28, x57_31, x57_34, x57_37, x57_38, x57_41, x57_44, x57_47, x57_48, x57_49, x57_52, x57_55, x57_58, x57_59, x57_62, x57_65, x57_68, x57_69, x57_70, x57_73, x57_76, x57_79, x57_80, x57_81, x57_84, x57_87, x57_90, x57_91, x57_94, x57_95, gI_sI, gI_sR, gI_sA, gI_sL, gI_sF, gI_sQ, gI_sG, gI_sN, gR_sI, gR_sR, gR_sA, gR_sL, gR_sF, gR_sQ, gR_sG, gR_sN, gA_sI, gA_sR, gA_sA, gA_sL, gA_sF, gA_sQ, gA_sG, gA_sN, gL_sI, gL_sR, gL_sA, gL_sL, gL_sF, gL_sQ, gL_sG, gL_sN, gF_sI, gF_sR, gF_sA, gF_sL, gF_sF, gF_sQ, gF_sG, gF_sN, gQ_sI, gQ_sR, gQ_sA, gQ_sL, gQ_sF, gQ_sQ, gQ_sG, gQ_sN, gN_sI, gN_sR, gN_sA, gN_sL, gN_sF, gN_sQ, gN_sG, gN_sN, gS_sI, gS_sR, gS_sA, gS_sL, gS_sF, gS_sQ, gS_sG, gS_sN, gO_sI, gO_sR, gO_sA, gO_sL, gO_sF, gO_sQ, gO_sN, isR_ref, isR_null, isR_rf, isR2_ref, isR2_null, isR2_rf, am_k_int, am_k_ref, am_k_null, am_k_rf, am_k_none, am_k_long, am_k_double, rf_some, rf_none, KT_ret, KT_void, XP_ap, true_and, and_true, Nat.reduceAdd, Nat.reduceEqDiff, reduceIte, if_true, if_false, eq_self, true_or, or_true, forall_const, not_true_eq_false, not_false_eq_true, i_10, false_imp_iff, true_imp_iff, not_false_eq_true]
            refine h0 (fun y => ((hh v).mp y).elim z z2) D2 L2 (hF.trans hF2) (fun u hu => ?_) (fun u hu => ?_)
            · by_cases hc : ty_h u (tm c)
              · rw [m1 u hc, hL'v]
                by_cases hb : ty_h u (tm b)
                · rw [k1 u hb, mn_mn]
                · rw [k2 u hb]
              · rw [m2 u hc, k1 u (((hh u).mp hu).resolve_right hc)]
            · rw [m2 u (fun y => hu ((hh u).mpr (.inr y))), k2 u (fun y => hu ((hh u).mpr (.inl y)))]
    · subst hrv
      exact h1 (by rw [hvv]; rfl) D L (LVF.refl hL)
end TB
