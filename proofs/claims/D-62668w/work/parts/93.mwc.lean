/-! FunDeskModel, reading: a clause ends -/
set_option maxRecDepth 100000
def cq : List (Nat × Nat) → Nat
  | [] => 0
  | (a, b) :: M => (if a = 1 ∧ 0 < b then 1 else 0) + cq M
def LB (M : List (Nat × Nat)) : Prop := ∀ z, z ∈ M → z.1 < 65536 ∧ z.2 < 65536
section WC
variable {d : Nat} {D D' : sS} {Q : am_O → am_H → Prop} {tx : Nat → Int32} {n p dep k m s q j : Nat} {b : Bool} {v : Int32} {js : List Nat}
theorem cq_app {M M' : List (Nat × Nat)} : cq (M ++ M') = cq M + cq M' := by
  induction M with
  | nil => exact (Nat.zero_add _).symm
  | cons z M ih =>
    obtain ⟨a, b⟩ := z
    show _ + cq (M ++ M') = _ + cq M + cq M'
    rw [ih]; omega
theorem cq_pl {e : tE} (h : PB e) : cq (pl e) = (pv e).length ∧ LB (pl e) := by
  induction e with
  | var c =>
    have h : (show Nat from c) < 65536 := h
    constructor
    · show (if 1 = 1 ∧ 0 < c then 1 else 0) + 0 = (if c = 0 then [] else [c]).length
      by_cases hc : c = 0
      · rw [if_pos hc, if_neg (fun z => by rw [hc] at z; exact absurd z.2 (by decide))]; rfl
      · rw [if_neg hc, if_pos ⟨rfl, Nat.pos_of_ne_zero hc⟩]; rfl
    · intro z hz
      have hz : z ∈ [(1, c)] := hz
      rw [List.mem_singleton] at hz
      subst hz
      exact ⟨(by decide : 1 < 65536), h⟩
  | pow a k ih =>
    cases a with
    | natCast v =>
      obtain ⟨h1, h2, h3⟩ := h
      constructor
      · show (if k = 1 ∧ 0 < v then 1 else 0) + 0 = 0
        rw [if_neg (by omega)]
      · intro z hz
        have hz : z ∈ [(k, v)] := hz
        rw [List.mem_singleton] at hz
        subst hz
        exact ⟨by omega, h3⟩
    | _ => exact h.elim
  | mul q r ih1 ih2 =>
    obtain ⟨a1, a2⟩ := ih1 h.1
    obtain ⟨c1, c2⟩ := ih2 h.2
    constructor
    · show (if 0 = 1 ∧ 0 < 0 then 1 else 0) + cq (pl q ++ pl r) = (pv q ++ pv r).length
      rw [if_neg (by omega), cq_app, List.length_append, a1, c1]; omega
    · intro z hz
      have hz : z ∈ (0, 0) :: (pl q ++ pl r) := hz
      rw [List.mem_cons, List.mem_append] at hz
      rcases hz with rfl | hz | hz
      · exact ⟨by decide, by decide⟩
      · exact a2 z hz
      · exact c2 z hz
  | _ => exact h.elim
theorem y_and : ∀ cn, cn < 6 → ∀ l, l < 124 → i32 (cn * 65536 + l) &&& 65535 = i32 l ∧ i32 (cn * 65536 + l) >>> 16 = i32 cn := by decide
theorem y_or : ∀ cn, cn < 5 → ∀ l, l < 124 → ((i32 cn + 1) <<< 16) ||| i32 l = i32 ((cn + 1) * 65536 + l) := by decide
theorem pat_gI {E : Int32} : gI (pat D E js) q = gI D q := congrFun pat_r.1 q
theorem TM.mfr (h : TM D tx n) (hf : MFR k m s D D') : TM D' tx n := by
  obtain ⟨h1, h2, h3, h4, h5⟩ := h
  exact ⟨(hf.1 514 (by omega)).trans h1, h2, fun j hj => (hf.2.1 513 j (by omega)).trans (h3 j hj), h4, h5⟩
theorem MFR.pz {E : Int32} : MFR k 0 s D (pat D E js) := by
  have e1 := pat_r (D := D) (E := E) (js := js)
  refine ⟨fun q hq => pat_gI, fun q j hq => pat_gA (.inr fun z => hq (.inl ⟨.inr (.inl z), Nat.zero_le _⟩)), e1.2.1, e1.2.2⟩
theorem r_g11 (hd : 8 ≤ d) : R_g11 (HM d Q) tx n := by
  intro D p dep k m s j s0 cn l pq js hm hB hf hj hcn hl hch hjs h517 h518 hs1 hrs hpb hmj hnd hb1 hb2 hg1 hg2
  obtain ⟨hT, hp, hdp, hk, hdr, hsg, hb⟩ := hm
  obtain ⟨b1, b2, b3, b4, b5⟩ := hB
  obtain ⟨f1, f2, f3, f4⟩ := hf
  have hn := hT.2.1
  have s0' := sk_1 (tx := tx) b1
  have hk1 : (i32 k).toNatClampNeg = k := i32_nat (by omega)
  have hk2 : vp_in (i32 k) 180 = True := eq_true ((i32_in (by omega)).mpr (by omega))
  have hj1 : (i32 j).toNatClampNeg = j := i32_nat (by omega)
  have hj2 : vp_in (i32 j) 124 = True := eq_true ((i32_in (by omega)).mpr (by omega))
  refine h_call (g := 0) (st := 11) hk (by omega) hb f1 (by omega) f2 (by omega) ?_
  show AC d 94 _ _ _
  refine AC.pos hd fun d' hd' => ?_
  rw [e94]
  have hx : gA D 530 k = 11 := f2
  simp only [x94_0, x94_1, x94_4, x94_5, x94_6, x94_7, x94_8, x94_9, x94_12, x94_13, x94_14, x94_17, x94_19, x94_22, x94_23, x94_24, x94_27, x94_28, x94_30, x94_33, x94_35, x94_38, x94_39, x94_41, x94_44, x94_46, x94_49, x94_50, x94_52, x94_55, x94_57, x94_60, x94_62, x94_63, x94_64, x94_66, x94_69, x94_70, x94_71, x94_74, x94_75, x94_77, x94_80, x94_81, x94_82, x94_85, x94_86, x94_87, x94_89, x94_92, x94_93, x94_96, x94_97, x94_100, x94_101, x94_102, x94_103, x94_106, x94_107, x94_108, x94_110, x94_113, x94_114, x94_115, x94_116, x94_119, x94_121, x94_124, x94_125, x94_127, x94_130, x94_132, x94_133, x94_134, x94_137, x94_138, x94_140, x94_143, x94_145, x94_148, x94_150, x94_151, x94_152, x94_155, x94_156, x94_159, x94_160, x94_161, x94_164, x94_165, x94_166, x94_169, x94_170, x94_171, x94_174, x94_175, x94_177, x94_180, x94_181, x94_184, x94_185, x94_188, x94_189, x94_190, x94_191, x94_194, x94_195, x94_196, x94_197, x94_200, x94_201, x94_203, x94_206, x94_207, x94_210, x94_211, x94_212, x94_215, x94_216, x94_217, x94_218, x94_219, x94_221, x94_224, x94_225, x94_228, x94_229, x94_232, x94_233, x94_234, x94_235, x94_238, x94_239, x94_240, x94_242, x94_245, x94_246, x94_247, x94_250, x94_253, x94_254, x94_255, x94_258, x94_259, x94_260, x94_263, x94_264, x94_266, x94_269, x94_270, x94_272, x94_275, x94_276, x94_279, x94_282, x94_283, x94_284, x94_285, x94_288, x94_289, x94_292, x94_293, x94_294, x94_295, x94_296, x94_299, gI_sI, gI_sR, gI_sA, gI_sL, gI_sF, gI_sQ, gI_sG, gI_sN, gR_sI, gR_sR, gR_sA, gR_sL, gR_sF, gR_sQ, gR_sG, gR_sN, gA_sI, gA_sR, gA_sA, gA_sL, gA_sF, gA_sQ, gA_sG, gA_sN, gL_sI, gL_sR, gL_sA, gL_sL, gL_sF, gL_sQ, gL_sG, gL_sN, gF_sI, gF_sR, gF_sA, gF_sL, gF_sF, gF_sQ, gF_sG, gF_sN, gQ_sI, gQ_sR, gQ_sA, gQ_sL, gQ_sF, gQ_sQ, gQ_sG, gQ_sN, gN_sI, gN_sR, gN_sA, gN_sL, gN_sF, gN_sQ, gN_sG, gN_sN, gS_sI, gS_sR, gS_sA, gS_sL, gS_sF, gS_sQ, gS_sG, gS_sN, gO_sI, gO_sR, gO_sA, gO_sL, gO_sF, gO_sQ, gO_sN, isR_ref, isR_null, isR_rf, isR2_ref, isR2_null, isR2_rf, am_k_int, am_k_ref, am_k_null, am_k_rf, am_k_none, am_k_long, am_k_double, rf_some, rf_none, KT_ret, KT_void, XP_ap, true_and, and_true, Nat.reduceAdd, Nat.reduceEqDiff, reduceIte, if_true, if_false, eq_self, true_or, or_true, forall_const, not_true_eq_false, not_false_eq_true, c_y hx, c_n hx 1 (by decide), c_n hx 2 (by decide), c_n hx 3 (by decide), c_n hx 4 (by decide), c_n hx 5 (by decide), c_n hx 6 (by decide), c_n hx 7 (by decide), c_n hx 8 (by decide), c_n hx 10 (by decide), c_n hx 12 (by decide), false_imp_iff, true_imp_iff, hk1, hk2]
  refine AC.use (K := KH d Q) ?_ (Nat.le_refl _) (fun o h' ⟨D', z1, z2, z3⟩ => by rw [z1, z2]; simp only [x94_0, x94_1, x94_4, x94_5, x94_6, x94_7, x94_8, x94_9, x94_12, x94_13, x94_14, x94_17, x94_19, x94_22, x94_23, x94_24, x94_27, x94_28, x94_30, x94_33, x94_35, x94_38, x94_39, x94_41, x94_44, x94_46, x94_49, x94_50, x94_52, x94_55, x94_57, x94_60, x94_62, x94_63, x94_64, x94_66, x94_69, x94_70, x94_71, x94_74, x94_75, x94_77, x94_80, x94_81, x94_82, x94_85, x94_86, x94_87, x94_89, x94_92, x94_93, x94_96, x94_97, x94_100, x94_101, x94_102, x94_103, x94_106, x94_107, x94_108, x94_110, x94_113, x94_114, x94_115, x94_116, x94_119, x94_121, x94_124, x94_125, x94_127, x94_130, x94_132, x94_133, x94_134, x94_137, x94_138, x94_140, x94_143, x94_145, x94_148, x94_150, x94_151, x94_152, x94_155, x94_156, x94_159, x94_160, x94_161, x94_164, x94_165, x94_166, x94_169, x94_170, x94_171, x94_174, x94_175, x94_177, x94_180, x94_181, x94_184, x94_185, x94_188, x94_189, x94_190, x94_191, x94_194, x94_195, x94_196, x94_197, x94_200, x94_201, x94_203, x94_206, x94_207, x94_210, x94_211, x94_212, x94_215, x94_216, x94_217, x94_218, x94_219, x94_221, x94_224, x94_225, x94_228, x94_229, x94_232, x94_233, x94_234, x94_235, x94_238, x94_239, x94_240, x94_242, x94_245, x94_246, x94_247, x94_250, x94_253, x94_254, x94_255, x94_258, x94_259, x94_260, x94_263, x94_264, x94_266, x94_269, x94_270, x94_272, x94_275, x94_276, x94_279, x94_282, x94_283, x94_284, x94_285, x94_288, x94_289, x94_292, x94_293, x94_294, x94_295, x94_296, x94_299, gI_sI, gI_sR, gI_sA, gI_sL, gI_sF, gI_sQ, gI_sG, gI_sN, gR_sI, gR_sR, gR_sA, gR_sL, gR_sF, gR_sQ, gR_sG, gR_sN, gA_sI, gA_sR, gA_sA, gA_sL, gA_sF, gA_sQ, gA_sG, gA_sN, gL_sI, gL_sR, gL_sA, gL_sL, gL_sF, gL_sQ, gL_sG, gL_sN, gF_sI, gF_sR, gF_sA, gF_sL, gF_sF, gF_sQ, gF_sG, gF_sN, gQ_sI, gQ_sR, gQ_sA, gQ_sL, gQ_sF, gQ_sQ, gQ_sG, gQ_sN, gN_sI, gN_sR, gN_sA, gN_sL, gN_sF, gN_sQ, gN_sG, gN_sN, gS_sI, gS_sR, gS_sA, gS_sL, gS_sF, gS_sQ, gS_sG, gS_sN, gO_sI, gO_sR, gO_sA, gO_sL, gO_sF, gO_sQ, gO_sN, isR_ref, isR_null, isR_rf, isR2_ref, isR2_null, isR2_rf, am_k_int, am_k_ref, am_k_null, am_k_rf, am_k_none, am_k_long, am_k_double, rf_some, rf_none, KT_ret, KT_void, XP_ap, true_and, and_true, Nat.reduceAdd, Nat.reduceEqDiff, reduceIte, if_true, if_false, eq_self, true_or, or_true, forall_const, not_true_eq_false, not_false_eq_true]; exact ⟨_, rfl, rfl, z3⟩)
  refine AC.pos hd' fun d'' hd'' => ?_
  rw [e95]
  have e16 : ((16 : Int32) &&& 31) = 16 := by decide
  have key1 : ∀ (M : List (Nat × Nat)) (pp c : Nat), LB M → RS (Gdr D) pp M → pp + M.length = s0 + (pl pq).length → XW 95 d'' (KH d Q) 62 [some (.ref 40), some (.int (i32 k)), some (.int (i32 (c + cq M))), some (.int (i32 (s0 + (pl pq).length))), none, none] [] (toH D) → XW 95 d'' (KH d Q) 14 [some (.ref 40), some (.int (i32 k)), some (.int (i32 c)), some (.int (i32 pp)), none, none] [] (toH D) := by
    intro M
    induction M with
    | nil =>
      intro pp c _ _ hl h
      have hl : pp + 0 = s0 + (pl pq).length := hl
      rw [x95_14]
      simp only [x95_0, x95_1, x95_2, x95_3, x95_6, x95_7, x95_10, x95_11, x95_12, x95_13, x95_15, x95_16, x95_19, x95_20, x95_23, x95_24, x95_25, x95_26, x95_29, x95_30, x95_31, x95_34, x95_35, x95_36, x95_37, x95_40, x95_41, x95_44, x95_45, x95_46, x95_49, x95_50, x95_53, x95_54, x95_55, x95_56, x95_59, x95_63, x95_65, x95_66, x95_67, x95_70, x95_71, x95_73, x95_74, x95_77, x95_78, x95_79, x95_81, x95_82, x95_83, x95_86, x95_87, x95_90, x95_91, x95_92, x95_93, x95_94, x95_97, x95_98, x95_101, x95_102, x95_103, x95_104, x95_107, x95_108, x95_109, x95_112, x95_113, x95_114, x95_117, x95_118, x95_119, x95_121, x95_122, x95_123, x95_124, x95_126, x95_127, x95_128, x95_129, x95_130, x95_131, x95_133, x95_136, x95_139, x95_140, x95_141, x95_144, x95_145, x95_146, x95_148, x95_151, x95_152, x95_154, x95_155, x95_156, x95_159, x95_160, x95_163, x95_164, x95_165, x95_167, x95_168, x95_170, x95_172, x95_175, x95_176, x95_179, x95_181, x95_182, x95_184, x95_185, x95_188, x95_190, x95_191, x95_194, x95_195, x95_197, x95_199, x95_202, x95_203, x95_206, gI_sI, gI_sR, gI_sA, gI_sL, gI_sF, gI_sQ, gI_sG, gI_sN, gR_sI, gR_sR, gR_sA, gR_sL, gR_sF, gR_sQ, gR_sG, gR_sN, gA_sI, gA_sR, gA_sA, gA_sL, gA_sF, gA_sQ, gA_sG, gA_sN, gL_sI, gL_sR, gL_sA, gL_sL, gL_sF, gL_sQ, gL_sG, gL_sN, gF_sI, gF_sR, gF_sA, gF_sL, gF_sF, gF_sQ, gF_sG, gF_sN, gQ_sI, gQ_sR, gQ_sA, gQ_sL, gQ_sF, gQ_sQ, gQ_sG, gQ_sN, gN_sI, gN_sR, gN_sA, gN_sL, gN_sF, gN_sQ, gN_sG, gN_sN, gS_sI, gS_sR, gS_sA, gS_sL, gS_sF, gS_sQ, gS_sG, gS_sN, gO_sI, gO_sR, gO_sA, gO_sL, gO_sF, gO_sQ, gO_sN, isR_ref, isR_null, isR_rf, isR2_ref, isR2_null, isR2_rf, am_k_int, am_k_ref, am_k_null, am_k_rf, am_k_none, am_k_long, am_k_double, rf_some, rf_none, KT_ret, KT_void, XP_ap, true_and, and_true, Nat.reduceAdd, Nat.reduceEqDiff, reduceIte, if_true, if_false, eq_self, true_or, or_true, forall_const, not_true_eq_false, not_false_eq_true, hk1, hk2, f3, hj1, hj2, h518]
      rw [i32_lt (by omega) (by omega)]
      refine ⟨fun _ => ?_, fun z => absurd z (by omega)⟩
      have e : pp = s0 + (pl pq).length := by omega
      subst e
      exact h
    | cons z M ih =>
      intro pp c hLB hR hl h
      obtain ⟨a, b⟩ := z
      have hab := hLB (a, b) (List.mem_cons_self ..)
      have ha1 : a < 65536 := hab.1
      have ha2 : b < 65536 := hab.2
      have hl : pp + (M.length + 1) = s0 + (pl pq).length := hl
      obtain ⟨⟨g1, g2⟩, hR'⟩ := hR
      have g1 : gA D 524 pp = i32 a := g1
      have g2 : gA D 525 pp = i32 b := g2
      have hp1 : (i32 pp).toNatClampNeg = pp := i32_nat (by omega)
      have hp2 : vp_in (i32 pp) 80 = True := eq_true ((i32_in (by omega)).mpr (by omega))
      have ih := ih (pp + 1) (c + (if a = 1 ∧ 0 < b then 1 else 0)) (fun z hz => hLB z (List.mem_cons_of_mem _ hz)) hR' (by omega) (by
        have e : c + (if a = 1 ∧ 0 < b then 1 else 0) + cq M = c + cq ((a, b) :: M) := by
          show _ = c + (_ + cq M); omega
        rw [e]; exact h)
      rw [x95_14]
      simp only [x95_0, x95_1, x95_2, x95_3, x95_6, x95_7, x95_10, x95_11, x95_12, x95_13, x95_15, x95_16, x95_19, x95_20, x95_23, x95_24, x95_25, x95_26, x95_29, x95_30, x95_31, x95_34, x95_35, x95_36, x95_37, x95_40, x95_41, x95_44, x95_45, x95_46, x95_49, x95_50, x95_53, x95_54, x95_55, x95_56, x95_59, x95_63, x95_65, x95_66, x95_67, x95_70, x95_71, x95_73, x95_74, x95_77, x95_78, x95_79, x95_81, x95_82, x95_83, x95_86, x95_87, x95_90, x95_91, x95_92, x95_93, x95_94, x95_97, x95_98, x95_101, x95_102, x95_103, x95_104, x95_107, x95_108, x95_109, x95_112, x95_113, x95_114, x95_117, x95_118, x95_119, x95_121, x95_122, x95_123, x95_124, x95_126, x95_127, x95_128, x95_129, x95_130, x95_131, x95_133, x95_136, x95_139, x95_140, x95_141, x95_144, x95_145, x95_146, x95_148, x95_151, x95_152, x95_154, x95_155, x95_156, x95_159, x95_160, x95_163, x95_164, x95_165, x95_167, x95_168, x95_170, x95_172, x95_175, x95_176, x95_179, x95_181, x95_182, x95_184, x95_185, x95_188, x95_190, x95_191, x95_194, x95_195, x95_197, x95_199, x95_202, x95_203, x95_206, gI_sI, gI_sR, gI_sA, gI_sL, gI_sF, gI_sQ, gI_sG, gI_sN, gR_sI, gR_sR, gR_sA, gR_sL, gR_sF, gR_sQ, gR_sG, gR_sN, gA_sI, gA_sR, gA_sA, gA_sL, gA_sF, gA_sQ, gA_sG, gA_sN, gL_sI, gL_sR, gL_sA, gL_sL, gL_sF, gL_sQ, gL_sG, gL_sN, gF_sI, gF_sR, gF_sA, gF_sL, gF_sF, gF_sQ, gF_sG, gF_sN, gQ_sI, gQ_sR, gQ_sA, gQ_sL, gQ_sF, gQ_sQ, gQ_sG, gQ_sN, gN_sI, gN_sR, gN_sA, gN_sL, gN_sF, gN_sQ, gN_sG, gN_sN, gS_sI, gS_sR, gS_sA, gS_sL, gS_sF, gS_sQ, gS_sG, gS_sN, gO_sI, gO_sR, gO_sA, gO_sL, gO_sF, gO_sQ, gO_sN, isR_ref, isR_null, isR_rf, isR2_ref, isR2_null, isR2_rf, am_k_int, am_k_ref, am_k_null, am_k_rf, am_k_none, am_k_long, am_k_double, rf_some, rf_none, KT_ret, KT_void, XP_ap, true_and, and_true, Nat.reduceAdd, Nat.reduceEqDiff, reduceIte, if_true, if_false, eq_self, true_or, or_true, forall_const, not_true_eq_false, not_false_eq_true, hk1, hk2, f3, hj1, hj2, h518, hp1, hp2, g1, g2]
      have e1 : (i32 a = 1) ↔ a = 1 := i32_eq (a := a) (b := 1) (by omega) (by omega)
      have e2 : ((0 : Int32) < i32 b) ↔ 0 < b := i32_lt (a := 0) (b := b) (by omega) (by omega)
      rw [i32_lt (by omega) (by omega), e1, e2, i32_add1, i32_add1]
      refine ⟨fun z => absurd z (by omega), fun _ => ⟨fun c1 => ?_, fun c1 => ⟨fun c2 => ?_, fun c2 => ?_⟩⟩⟩
      · rw [if_neg (by omega)] at ih; rw [Int32.add_zero]; exact ih
      · rw [if_neg (by omega)] at ih; rw [Int32.add_zero]; exact ih
      · rw [if_pos ⟨c1, c2⟩] at ih; exact ih
  simp only [x95_0, x95_1, x95_2, x95_3, x95_6, x95_7, x95_10, x95_11, x95_12, x95_13, x95_15, x95_16, x95_19, x95_20, x95_23, x95_24, x95_25, x95_26, x95_29, x95_30, x95_31, x95_34, x95_35, x95_36, x95_37, x95_40, x95_41, x95_44, x95_45, x95_46, x95_49, x95_50, x95_53, x95_54, x95_55, x95_56, x95_59, x95_63, x95_65, x95_66, x95_67, x95_70, x95_71, x95_73, x95_74, x95_77, x95_78, x95_79, x95_81, x95_82, x95_83, x95_86, x95_87, x95_90, x95_91, x95_92, x95_93, x95_94, x95_97, x95_98, x95_101, x95_102, x95_103, x95_104, x95_107, x95_108, x95_109, x95_112, x95_113, x95_114, x95_117, x95_118, x95_119, x95_121, x95_122, x95_123, x95_124, x95_126, x95_127, x95_128, x95_129, x95_130, x95_131, x95_133, x95_136, x95_139, x95_140, x95_141, x95_144, x95_145, x95_146, x95_148, x95_151, x95_152, x95_154, x95_155, x95_156, x95_159, x95_160, x95_163, x95_164, x95_165, x95_167, x95_168, x95_170, x95_172, x95_175, x95_176, x95_179, x95_181, x95_182, x95_184, x95_185, x95_188, x95_190, x95_191, x95_194, x95_195, x95_197, x95_199, x95_202, x95_203, x95_206, gI_sI, gI_sR, gI_sA, gI_sL, gI_sF, gI_sQ, gI_sG, gI_sN, gR_sI, gR_sR, gR_sA, gR_sL, gR_sF, gR_sQ, gR_sG, gR_sN, gA_sI, gA_sR, gA_sA, gA_sL, gA_sF, gA_sQ, gA_sG, gA_sN, gL_sI, gL_sR, gL_sA, gL_sL, gL_sF, gL_sQ, gL_sG, gL_sN, gF_sI, gF_sR, gF_sA, gF_sL, gF_sF, gF_sQ, gF_sG, gF_sN, gQ_sI, gQ_sR, gQ_sA, gQ_sL, gQ_sF, gQ_sQ, gQ_sG, gQ_sN, gN_sI, gN_sR, gN_sA, gN_sL, gN_sF, gN_sQ, gN_sG, gN_sN, gS_sI, gS_sR, gS_sA, gS_sL, gS_sF, gS_sQ, gS_sG, gS_sN, gO_sI, gO_sR, gO_sA, gO_sL, gO_sF, gO_sQ, gO_sN, isR_ref, isR_null, isR_rf, isR2_ref, isR2_null, isR2_rf, am_k_int, am_k_ref, am_k_null, am_k_rf, am_k_none, am_k_long, am_k_double, rf_some, rf_none, KT_ret, KT_void, XP_ap, true_and, and_true, Nat.reduceAdd, Nat.reduceEqDiff, reduceIte, if_true, if_false, eq_self, true_or, or_true, forall_const, not_true_eq_false, not_false_eq_true, hk1, hk2, f3, hj1, hj2, h517]
  obtain ⟨hcq, hLB⟩ := cq_pl hpb
  refine key1 (pl pq) s0 0 hLB hrs rfl ?_
  rw [hcq, Nat.zero_add]
  have hpv : (pv pq).length ≤ 60 := by
    have h9 : ∀ M : List (Nat × Nat), cq M ≤ M.length := by
      intro M
      induction M with
      | nil => exact Nat.le_refl _
      | cons z M ih =>
        obtain ⟨a, b⟩ := z
        show (if a = 1 ∧ 0 < b then 1 else 0) + cq M ≤ M.length + 1
        split <;> omega
    have := h9 (pl pq)
    omega
  have y1 := (y_and cn (by omega) l hl).1
  have y2 := (y_and cn (by omega) l hl).2
  simp only [x95_0, x95_1, x95_2, x95_3, x95_6, x95_7, x95_10, x95_11, x95_12, x95_13, x95_15, x95_16, x95_19, x95_20, x95_23, x95_24, x95_25, x95_26, x95_29, x95_30, x95_31, x95_34, x95_35, x95_36, x95_37, x95_40, x95_41, x95_44, x95_45, x95_46, x95_49, x95_50, x95_53, x95_54, x95_55, x95_56, x95_59, x95_63, x95_65, x95_66, x95_67, x95_70, x95_71, x95_73, x95_74, x95_77, x95_78, x95_79, x95_81, x95_82, x95_83, x95_86, x95_87, x95_90, x95_91, x95_92, x95_93, x95_94, x95_97, x95_98, x95_101, x95_102, x95_103, x95_104, x95_107, x95_108, x95_109, x95_112, x95_113, x95_114, x95_117, x95_118, x95_119, x95_121, x95_122, x95_123, x95_124, x95_126, x95_127, x95_128, x95_129, x95_130, x95_131, x95_133, x95_136, x95_139, x95_140, x95_141, x95_144, x95_145, x95_146, x95_148, x95_151, x95_152, x95_154, x95_155, x95_156, x95_159, x95_160, x95_163, x95_164, x95_165, x95_167, x95_168, x95_172, x95_175, x95_176, x95_179, x95_181, x95_182, x95_184, x95_185, x95_188, x95_190, x95_191, x95_194, x95_195, x95_197, x95_199, x95_202, x95_203, x95_206, x95_62, gI_sI, gI_sR, gI_sA, gI_sL, gI_sF, gI_sQ, gI_sG, gI_sN, gR_sI, gR_sR, gR_sA, gR_sL, gR_sF, gR_sQ, gR_sG, gR_sN, gA_sI, gA_sR, gA_sA, gA_sL, gA_sF, gA_sQ, gA_sG, gA_sN, gL_sI, gL_sR, gL_sA, gL_sL, gL_sF, gL_sQ, gL_sG, gL_sN, gF_sI, gF_sR, gF_sA, gF_sL, gF_sF, gF_sQ, gF_sG, gF_sN, gQ_sI, gQ_sR, gQ_sA, gQ_sL, gQ_sF, gQ_sQ, gQ_sG, gQ_sN, gN_sI, gN_sR, gN_sA, gN_sL, gN_sF, gN_sQ, gN_sG, gN_sN, gS_sI, gS_sR, gS_sA, gS_sL, gS_sF, gS_sQ, gS_sG, gS_sN, gO_sI, gO_sR, gO_sA, gO_sL, gO_sF, gO_sQ, gO_sN, isR_ref, isR_null, isR_rf, isR2_ref, isR2_null, isR2_rf, am_k_int, am_k_ref, am_k_null, am_k_rf, am_k_none, am_k_long, am_k_double, rf_some, rf_none, KT_ret, KT_void, XP_ap, true_and, and_true, Nat.reduceAdd, Nat.reduceEqDiff, reduceIte, if_true, if_false, eq_self, true_or, or_true, forall_const, not_true_eq_false, not_false_eq_true]
  refine m_put (k := m) hdr (by omega) (by omega) ?_
  simp only [x95_0, x95_1, x95_2, x95_3, x95_6, x95_7, x95_10, x95_11, x95_12, x95_13, x95_15, x95_16, x95_19, x95_20, x95_23, x95_24, x95_25, x95_26, x95_29, x95_30, x95_31, x95_34, x95_35, x95_36, x95_37, x95_40, x95_41, x95_44, x95_45, x95_46, x95_49, x95_50, x95_53, x95_54, x95_55, x95_56, x95_59, x95_63, x95_65, x95_66, x95_67, x95_70, x95_71, x95_73, x95_74, x95_77, x95_78, x95_79, x95_81, x95_82, x95_83, x95_86, x95_87, x95_90, x95_91, x95_92, x95_93, x95_94, x95_97, x95_98, x95_101, x95_102, x95_103, x95_104, x95_107, x95_108, x95_109, x95_112, x95_113, x95_114, x95_117, x95_118, x95_119, x95_121, x95_122, x95_123, x95_124, x95_126, x95_127, x95_128, x95_129, x95_130, x95_131, x95_133, x95_136, x95_139, x95_140, x95_141, x95_144, x95_145, x95_146, x95_148, x95_151, x95_152, x95_154, x95_155, x95_156, x95_159, x95_160, x95_163, x95_164, x95_165, x95_167, x95_168, x95_172, x95_175, x95_176, x95_179, x95_181, x95_182, x95_184, x95_185, x95_188, x95_190, x95_191, x95_194, x95_195, x95_197, x95_199, x95_202, x95_203, x95_206, gI_sI, gI_sR, gI_sA, gI_sL, gI_sF, gI_sQ, gI_sG, gI_sN, gR_sI, gR_sR, gR_sA, gR_sL, gR_sF, gR_sQ, gR_sG, gR_sN, gA_sI, gA_sR, gA_sA, gA_sL, gA_sF, gA_sQ, gA_sG, gA_sN, gL_sI, gL_sR, gL_sA, gL_sL, gL_sF, gL_sQ, gL_sG, gL_sN, gF_sI, gF_sR, gF_sA, gF_sL, gF_sF, gF_sQ, gF_sG, gF_sN, gQ_sI, gQ_sR, gQ_sA, gQ_sL, gQ_sF, gQ_sQ, gQ_sG, gQ_sN, gN_sI, gN_sR, gN_sA, gN_sL, gN_sF, gN_sQ, gN_sG, gN_sN, gS_sI, gS_sR, gS_sA, gS_sL, gS_sF, gS_sQ, gS_sG, gS_sN, gO_sI, gO_sR, gO_sA, gO_sL, gO_sF, gO_sQ, gO_sN, isR_ref, isR_null, isR_rf, isR2_ref, isR2_null, isR2_rf, am_k_int, am_k_ref, am_k_null, am_k_rf, am_k_none, am_k_long, am_k_double, rf_some, rf_none, KT_ret, KT_void, XP_ap, true_and, and_true, Nat.reduceAdd, Nat.reduceEqDiff, reduceIte, if_true, if_false, eq_self, true_or, or_true, forall_const, not_true_eq_false, not_false_eq_true, hk1, hk2, f4, y1]
  refine m_put (k := m + 1) rfl (by omega) (by omega) ?_
  simp only [x95_0, x95_1, x95_2, x95_3, x95_6, x95_7, x95_10, x95_11, x95_12, x95_13, x95_15, x95_16, x95_19, x95_20, x95_23, x95_24, x95_25, x95_26, x95_29, x95_30, x95_31, x95_34, x95_35, x95_36, x95_37, x95_40, x95_41, x95_44, x95_45, x95_46, x95_49, x95_50, x95_53, x95_54, x95_55, x95_56, x95_59, x95_63, x95_65, x95_66, x95_67, x95_70, x95_71, x95_73, x95_74, x95_77, x95_78, x95_79, x95_81, x95_82, x95_83, x95_86, x95_87, x95_90, x95_91, x95_92, x95_93, x95_94, x95_97, x95_98, x95_101, x95_102, x95_103, x95_104, x95_107, x95_108, x95_109, x95_112, x95_113, x95_114, x95_117, x95_118, x95_119, x95_121, x95_122, x95_123, x95_124, x95_126, x95_127, x95_128, x95_129, x95_130, x95_131, x95_133, x95_136, x95_139, x95_140, x95_141, x95_144, x95_145, x95_146, x95_148, x95_151, x95_152, x95_154, x95_155, x95_156, x95_159, x95_160, x95_163, x95_164, x95_165, x95_167, x95_168, x95_172, x95_175, x95_176, x95_179, x95_181, x95_182, x95_184, x95_185, x95_188, x95_190, x95_191, x95_194, x95_195, x95_197, x95_199, x95_202, x95_203, x95_206, gI_sI, gI_sR, gI_sA, gI_sL, gI_sF, gI_sQ, gI_sG, gI_sN, gR_sI, gR_sR, gR_sA, gR_sL, gR_sF, gR_sQ, gR_sG, gR_sN, gA_sI, gA_sR, gA_sA, gA_sL, gA_sF, gA_sQ, gA_sG, gA_sN, gL_sI, gL_sR, gL_sA, gL_sL, gL_sF, gL_sQ, gL_sG, gL_sN, gF_sI, gF_sR, gF_sA, gF_sL, gF_sF, gF_sQ, gF_sG, gF_sN, gQ_sI, gQ_sR, gQ_sA, gQ_sL, gQ_sF, gQ_sQ, gQ_sG, gQ_sN, gN_sI, gN_sR, gN_sA, gN_sL, gN_sF, gN_sQ, gN_sG, gN_sN, gS_sI, gS_sR, gS_sA, gS_sL, gS_sF, gS_sQ, gS_sG, gS_sN, gO_sI, gO_sR, gO_sA, gO_sL, gO_sF, gO_sQ, gO_sN, isR_ref, isR_null, isR_rf, isR2_ref, isR2_null, isR2_rf, am_k_int, am_k_ref, am_k_null, am_k_rf, am_k_none, am_k_long, am_k_double, rf_some, rf_none, KT_ret, KT_void, XP_ap, true_and, and_true, Nat.reduceAdd, Nat.reduceEqDiff, reduceIte, if_true, if_false, eq_self, true_or, or_true, forall_const, not_true_eq_false, not_false_eq_true, hk1, hk2, f3, f4, hj1, hj2, e16, y2]
  rw [i32_sub1 (by omega) (by omega), Nat.add_sub_cancel, y_or cn hcn (m + 1) (by omega)]
  refine m_eat (p := p) hT hp (by omega) (by omega) (by decide) (by decide) (fun hbar => ?_) (fun hbar => ?_)
  · simp only [x95_0, x95_1, x95_2, x95_3, x95_6, x95_7, x95_10, x95_11, x95_12, x95_13, x95_15, x95_16, x95_19, x95_20, x95_23, x95_24, x95_25, x95_26, x95_29, x95_30, x95_31, x95_34, x95_35, x95_36, x95_37, x95_40, x95_41, x95_44, x95_45, x95_46, x95_49, x95_50, x95_53, x95_54, x95_55, x95_56, x95_59, x95_63, x95_65, x95_66, x95_67, x95_70, x95_71, x95_73, x95_74, x95_77, x95_78, x95_79, x95_81, x95_82, x95_83, x95_86, x95_87, x95_90, x95_91, x95_92, x95_93, x95_94, x95_97, x95_98, x95_101, x95_102, x95_103, x95_104, x95_107, x95_108, x95_109, x95_112, x95_113, x95_114, x95_117, x95_118, x95_119, x95_121, x95_122, x95_123, x95_124, x95_126, x95_127, x95_128, x95_129, x95_130, x95_131, x95_133, x95_136, x95_139, x95_140, x95_141, x95_144, x95_145, x95_146, x95_148, x95_151, x95_152, x95_154, x95_155, x95_156, x95_159, x95_160, x95_163, x95_164, x95_165, x95_167, x95_168, x95_172, x95_175, x95_176, x95_179, x95_181, x95_182, x95_184, x95_185, x95_188, x95_190, x95_191, x95_194, x95_195, x95_197, x95_199, x95_202, x95_203, x95_206, gI_sI, gI_sR, gI_sA, gI_sL, gI_sF, gI_sQ, gI_sG, gI_sN, gR_sI, gR_sR, gR_sA, gR_sL, gR_sF, gR_sQ, gR_sG, gR_sN, gA_sI, gA_sR, gA_sA, gA_sL, gA_sF, gA_sQ, gA_sG, gA_sN, gL_sI, gL_sR, gL_sA, gL_sL, gL_sF, gL_sQ, gL_sG, gL_sN, gF_sI, gF_sR, gF_sA, gF_sL, gF_sF, gF_sQ, gF_sG, gF_sN, gQ_sI, gQ_sR, gQ_sA, gQ_sL, gQ_sF, gQ_sQ, gQ_sG, gQ_sN, gN_sI, gN_sR, gN_sA, gN_sL, gN_sF, gN_sQ, gN_sG, gN_sN, gS_sI, gS_sR, gS_sA, gS_sL, gS_sF, gS_sQ, gS_sG, gS_sN, gO_sI, gO_sR, gO_sA, gO_sL, gO_sF, gO_sQ, gO_sN, isR_ref, isR_null, isR_rf, isR2_ref, isR2_null, isR2_rf, am_k_int, am_k_ref, am_k_null, am_k_rf, am_k_none, am_k_long, am_k_double, rf_some, rf_none, KT_ret, KT_void, XP_ap, true_and, and_true, Nat.reduceAdd, Nat.reduceEqDiff, reduceIte, if_true, if_false, eq_self, true_or, or_true, forall_const, not_true_eq_false, not_false_eq_true, i_10, false_imp_iff, true_imp_iff, not_false_eq_true]
    have y3 := (y_and (cn + 1) (by omega) (m + 1) (by omega)).2
    refine m_clause (k := k) (m := m + 2) (s := s) (y := i32 ((cn + 1) * 65536 + (m + 1))) (b := false) hb ?_ rfl (by omega) hsg hk (by omega) (by omega) ?_
    · simp [gA_sI, gA_sA]
    simp only [x95_0, x95_1, x95_2, x95_3, x95_6, x95_7, x95_10, x95_11, x95_12, x95_13, x95_15, x95_16, x95_19, x95_20, x95_23, x95_24, x95_25, x95_26, x95_29, x95_30, x95_31, x95_34, x95_35, x95_36, x95_37, x95_40, x95_41, x95_44, x95_45, x95_46, x95_49, x95_50, x95_53, x95_54, x95_55, x95_56, x95_59, x95_63, x95_65, x95_66, x95_67, x95_70, x95_71, x95_73, x95_74, x95_77, x95_78, x95_79, x95_81, x95_82, x95_83, x95_86, x95_87, x95_90, x95_91, x95_92, x95_93, x95_94, x95_97, x95_98, x95_101, x95_102, x95_103, x95_104, x95_107, x95_108, x95_109, x95_112, x95_113, x95_114, x95_117, x95_118, x95_119, x95_121, x95_122, x95_123, x95_124, x95_126, x95_127, x95_128, x95_129, x95_130, x95_131, x95_133, x95_136, x95_139, x95_140, x95_141, x95_144, x95_145, x95_146, x95_148, x95_151, x95_152, x95_154, x95_155, x95_156, x95_159, x95_160, x95_163, x95_164, x95_165, x95_167, x95_168, x95_172, x95_175, x95_176, x95_179, x95_181, x95_182, x95_184, x95_185, x95_188, x95_190, x95_191, x95_194, x95_195, x95_197, x95_199, x95_202, x95_203, x95_206, gI_sI, gI_sR, gI_sA, gI_sL, gI_sF, gI_sQ, gI_sG, gI_sN, gR_sI, gR_sR, gR_sA, gR_sL, gR_sF, gR_sQ, gR_sG, gR_sN, gA_sI, gA_sR, gA_sA, gA_sL, gA_sF, gA_sQ, gA_sG, gA_sN, gL_sI, gL_sR, gL_sA, gL_sL, gL_sF, gL_sQ, gL_sG, gL_sN, gF_sI, gF_sR, gF_sA, gF_sL, gF_sF, gF_sQ, gF_sG, gF_sN, gQ_sI, gQ_sR, gQ_sA, gQ_sL, gQ_sF, gQ_sQ, gQ_sG, gQ_sN, gN_sI, gN_sR, gN_sA, gN_sL, gN_sF, gN_sQ, gN_sG, gN_sN, gS_sI, gS_sR, gS_sA, gS_sL, gS_sF, gS_sQ, gS_sG, gS_sN, gO_sI, gO_sR, gO_sA, gO_sL, gO_sF, gO_sQ, gO_sN, isR_ref, isR_null, isR_rf, isR2_ref, isR2_null, isR2_rf, am_k_int, am_k_ref, am_k_null, am_k_rf, am_k_none, am_k_long, am_k_double, rf_some, rf_none, KT_ret, KT_void, XP_ap, true_and, and_true, Nat.reduceAdd, Nat.reduceEqDiff, reduceIte, if_true, if_false, eq_self, true_or, or_true, forall_const, not_true_eq_false, not_false_eq_true]
    rw [y3]
    have e5 : (i32 (cn + 1) = 5) ↔ cn + 1 = 5 := i32_eq (a := cn + 1) (b := 5) (by omega) (by omega)
    refine ⟨_, rfl, rfl, ?_⟩
    by_cases hg : 5 ≤ cn + 1
    · refine hb1 hbar hg _ (by repeat (first | exact MFR.refl | refine MFR.seti ?_ (by decide) | refine MFR.both ?_ | refine MFR.set ?_ (.inr (.inr ⟨by decide, by omega⟩)) | refine MFR.set ?_ (.inl ⟨by decide, by omega⟩) | refine MFR.set ?_ (.inr (.inl ⟨by decide, by omega⟩)))) ?_
      show bi _ = 1
      rw [decide_eq_true (e5.mpr (by omega))]; rfl
    · refine hg1 hbar hg _ (by repeat (first | exact MFR.refl | refine MFR.seti ?_ (by decide) | refine MFR.both ?_ | refine MFR.set ?_ (.inr (.inr ⟨by decide, by omega⟩)) | refine MFR.set ?_ (.inl ⟨by decide, by omega⟩) | refine MFR.set ?_ (.inr (.inl ⟨by decide, by omega⟩)))) ⟨hT, rfl, hdp, rfl, rfl, hsg, ?_⟩ ⟨?_, ?_, ?_, ?_⟩ ⟨?_, ?_, ?_, ?_⟩ ⟨?_, ?_, ?_⟩ ⟨?_, ?_, ?_⟩ ⟨?_, ?_, ?_⟩ rfl
      · show bi _ = 0
        rw [decide_eq_false (fun z => hg (by have := e5.mp z; omega))]; rfl
      all_goals first | (simp [gA_sI, gA_sA, f1, f2, f3, f4]; done) | (simp [gA_sI, gA_sA, f1, f2, f3, f4]; rfl) | (simp [gA_sI, gA_sA, f1, f2, f3, f4]; omega)
  · simp only [x95_0, x95_1, x95_2, x95_3, x95_6, x95_7, x95_10, x95_11, x95_12, x95_13, x95_15, x95_16, x95_19, x95_20, x95_23, x95_24, x95_25, x95_26, x95_29, x95_30, x95_31, x95_34, x95_35, x95_36, x95_37, x95_40, x95_41, x95_44, x95_45, x95_46, x95_49, x95_50, x95_53, x95_54, x95_55, x95_56, x95_59, x95_63, x95_65, x95_66, x95_67, x95_70, x95_71, x95_73, x95_74, x95_77, x95_78, x95_79, x95_81, x95_82, x95_83, x95_86, x95_87, x95_90, x95_91, x95_92, x95_93, x95_94, x95_97, x95_98, x95_101, x95_102, x95_103, x95_104, x95_107, x95_108, x95_109, x95_112, x95_113, x95_114, x95_117, x95_118, x95_119, x95_121, x95_122, x95_123, x95_124, x95_126, x95_127, x95_128, x95_129, x95_130, x95_131, x95_133, x95_136, x95_139, x95_140, x95_141, x95_144, x95_145, x95_146, x95_148, x95_151, x95_152, x95_154, x95_155, x95_156, x95_159, x95_160, x95_163, x95_164, x95_165, x95_167, x95_168, x95_172, x95_175, x95_176, x95_179, x95_181, x95_182, x95_184, x95_185, x95_188, x95_190, x95_191, x95_194, x95_195, x95_197, x95_199, x95_202, x95_203, x95_206, gI_sI, gI_sR, gI_sA, gI_sL, gI_sF, gI_sQ, gI_sG, gI_sN, gR_sI, gR_sR, gR_sA, gR_sL, gR_sF, gR_sQ, gR_sG, gR_sN, gA_sI, gA_sR, gA_sA, gA_sL, gA_sF, gA_sQ, gA_sG, gA_sN, gL_sI, gL_sR, gL_sA, gL_sL, gL_sF, gL_sQ, gL_sG, gL_sN, gF_sI, gF_sR, gF_sA, gF_sL, gF_sF, gF_sQ, gF_sG, gF_sN, gQ_sI, gQ_sR, gQ_sA, gQ_sL, gQ_sF, gQ_sQ, gQ_sG, gQ_sN, gN_sI, gN_sR, gN_sA, gN_sL, gN_sF, gN_sQ, gN_sG, gN_sN, gS_sI, gS_sR, gS_sA, gS_sL, gS_sF, gS_sQ, gS_sG, gS_sN, gO_sI, gO_sR, gO_sA, gO_sL, gO_sF, gO_sQ, gO_sN, isR_ref, isR_null, isR_rf, isR2_ref, isR2_null, isR2_rf, am_k_int, am_k_ref, am_k_null, am_k_rf, am_k_none, am_k_long, am_k_double, rf_some, rf_none, KT_ret, KT_void, XP_ap, true_and, and_true, Nat.reduceAdd, Nat.reduceEqDiff, reduceIte, if_true, if_false, eq_self, true_or, or_true, forall_const, not_true_eq_false, not_false_eq_true, i_10, false_imp_iff, true_imp_iff, not_false_eq_true]
    refine m_wantb (p := sk tx n p) (b := false) hT rfl (by omega) (by omega) (by decide) (by decide) hb ?_
    rw [sk_sk]
    simp only [x95_0, x95_1, x95_2, x95_3, x95_6, x95_7, x95_10, x95_11, x95_12, x95_13, x95_15, x95_16, x95_19, x95_20, x95_23, x95_24, x95_25, x95_26, x95_29, x95_30, x95_31, x95_34, x95_35, x95_36, x95_37, x95_40, x95_41, x95_44, x95_45, x95_46, x95_49, x95_50, x95_53, x95_54, x95_55, x95_56, x95_59, x95_63, x95_65, x95_66, x95_67, x95_70, x95_71, x95_73, x95_74, x95_77, x95_78, x95_79, x95_81, x95_82, x95_83, x95_86, x95_87, x95_90, x95_91, x95_92, x95_93, x95_94, x95_97, x95_98, x95_101, x95_102, x95_103, x95_104, x95_107, x95_108, x95_109, x95_112, x95_113, x95_114, x95_117, x95_118, x95_119, x95_121, x95_122, x95_123, x95_124, x95_126, x95_127, x95_128, x95_129, x95_130, x95_131, x95_133, x95_136, x95_139, x95_140, x95_141, x95_144, x95_145, x95_146, x95_148, x95_151, x95_152, x95_154, x95_155, x95_156, x95_159, x95_160, x95_163, x95_164, x95_165, x95_167, x95_168, x95_172, x95_175, x95_176, x95_179, x95_181, x95_182, x95_184, x95_185, x95_188, x95_190, x95_191, x95_194, x95_195, x95_197, x95_199, x95_202, x95_203, x95_206, gI_sI, gI_sR, gI_sA, gI_sL, gI_sF, gI_sQ, gI_sG, gI_sN, gR_sI, gR_sR, gR_sA, gR_sL, gR_sF, gR_sQ, gR_sG, gR_sN, gA_sI, gA_sR, gA_sA, gA_sL, gA_sF, gA_sQ, gA_sG, gA_sN, gL_sI, gL_sR, gL_sA, gL_sL, gL_sF, gL_sQ, gL_sG, gL_sN, gF_sI, gF_sR, gF_sA, gF_sL, gF_sF, gF_sQ, gF_sG, gF_sN, gQ_sI, gQ_sR, gQ_sA, gQ_sL, gQ_sF, gQ_sQ, gQ_sG, gQ_sN, gN_sI, gN_sR, gN_sA, gN_sL, gN_sF, gN_sQ, gN_sG, gN_sN, gS_sI, gS_sR, gS_sA, gS_sL, gS_sF, gS_sQ, gS_sG, gS_sN, gO_sI, gO_sR, gO_sA, gO_sL, gO_sF, gO_sQ, gO_sN, isR_ref, isR_null, isR_rf, isR2_ref, isR2_null, isR2_rf, am_k_int, am_k_ref, am_k_null, am_k_rf, am_k_none, am_k_long, am_k_double, rf_some, rf_none, KT_ret, KT_void, XP_ap, true_and, and_true, Nat.reduceAdd, Nat.reduceEqDiff, reduceIte, if_true, if_false, eq_self, true_or, or_true, forall_const, not_true_eq_false, not_false_eq_true]
    refine m_put (k := m + 2) rfl (by omega) (by omega) ?_
    have y4 := (y_and (cn + 1) (by omega) (m + 1) (by omega)).1
    simp only [x95_0, x95_1, x95_2, x95_3, x95_6, x95_7, x95_10, x95_11, x95_12, x95_13, x95_15, x95_16, x95_19, x95_20, x95_23, x95_24, x95_25, x95_26, x95_29, x95_30, x95_31, x95_34, x95_35, x95_36, x95_37, x95_40, x95_41, x95_44, x95_45, x95_46, x95_49, x95_50, x95_53, x95_54, x95_55, x95_56, x95_59, x95_63, x95_65, x95_66, x95_67, x95_70, x95_71, x95_73, x95_74, x95_77, x95_78, x95_79, x95_81, x95_82, x95_83, x95_86, x95_87, x95_90, x95_91, x95_92, x95_93, x95_94, x95_97, x95_98, x95_101, x95_102, x95_103, x95_104, x95_107, x95_108, x95_109, x95_112, x95_113, x95_114, x95_117, x95_118, x95_119, x95_121, x95_122, x95_123, x95_124, x95_126, x95_127, x95_128, x95_129, x95_130, x95_131, x95_133, x95_136, x95_139, x95_140, x95_141, x95_144, x95_145, x95_146, x95_148, x95_151, x95_152, x95_154, x95_155, x95_156, x95_159, x95_160, x95_163, x95_164, x95_165, x95_167, x95_168, x95_172, x95_175, x95_176, x95_179, x95_181, x95_182, x95_184, x95_185, x95_188, x95_190, x95_191, x95_194, x95_195, x95_197, x95_199, x95_202, x95_203, x95_206, gI_sI, gI_sR, gI_sA, gI_sL, gI_sF, gI_sQ, gI_sG, gI_sN, gR_sI, gR_sR, gR_sA, gR_sL, gR_sF, gR_sQ, gR_sG, gR_sN, gA_sI, gA_sR, gA_sA, gA_sL, gA_sF, gA_sQ, gA_sG, gA_sN, gL_sI, gL_sR, gL_sA, gL_sL, gL_sF, gL_sQ, gL_sG, gL_sN, gF_sI, gF_sR, gF_sA, gF_sL, gF_sF, gF_sQ, gF_sG, gF_sN, gQ_sI, gQ_sR, gQ_sA, gQ_sL, gQ_sF, gQ_sQ, gQ_sG, gQ_sN, gN_sI, gN_sR, gN_sA, gN_sL, gN_sF, gN_sQ, gN_sG, gN_sN, gS_sI, gS_sR, gS_sA, gS_sL, gS_sF, gS_sQ, gS_sG, gS_sN, gO_sI, gO_sR, gO_sA, gO_sL, gO_sF, gO_sQ, gO_sN, isR_ref, isR_null, isR_rf, isR2_ref, isR2_null, isR2_rf, am_k_int, am_k_ref, am_k_null, am_k_rf, am_k_none, am_k_long, am_k_double, rf_some, rf_none, KT_ret, KT_void, XP_ap, true_and, and_true, Nat.reduceAdd, Nat.reduceEqDiff, reduceIte, if_true, if_false, eq_self, true_or, or_true, forall_const, not_true_eq_false, not_false_eq_true, hk1, hk2, y4]
    have key2 : ∀ (js : List Nat) (l : Nat) (D1 : sS) (a5 : Option Value), ch (gA D1 517) l js → js.Nodup → l < 124 → gI D1 519 = i32 (m + 3) → (∀ a4 a5, XW 95 d'' (KH d Q) 202 [some (.ref 40), some (.int (i32 k)), some (.int (i32 (pv pq).length)), some (.int (i32 (m + 1))), a4, a5] [] (toH (pat D1 (i32 (m + 3)) js))) → XW 95 d'' (KH d Q) 170 [some (.ref 40), some (.int (i32 k)), some (.int (i32 (pv pq).length)), some (.int (i32 (m + 1))), some (.int (i32 l)), a5] [] (toH D1) := by
      intro js
      induction js with
      | nil =>
        intro l D1 a5 hc _ _ _ h
        have hc : l = 0 := hc
        subst hc
        rw [x95_170]
        simp only [x95_0, x95_1, x95_2, x95_3, x95_6, x95_7, x95_10, x95_11, x95_12, x95_13, x95_14, x95_15, x95_16, x95_19, x95_20, x95_23, x95_24, x95_25, x95_26, x95_29, x95_30, x95_31, x95_34, x95_35, x95_36, x95_37, x95_40, x95_41, x95_44, x95_45, x95_46, x95_49, x95_50, x95_53, x95_54, x95_55, x95_56, x95_59, x95_62, x95_63, x95_65, x95_66, x95_67, x95_70, x95_71, x95_73, x95_74, x95_77, x95_78, x95_79, x95_81, x95_82, x95_83, x95_86, x95_87, x95_90, x95_91, x95_92, x95_93, x95_94, x95_97, x95_98, x95_101, x95_102, x95_103, x95_104, x95_107, x95_108, x95_109, x95_112, x95_113, x95_114, x95_117, x95_118, x95_119, x95_121, x95_122, x95_123, x95_124, x95_126, x95_127, x95_128, x95_129, x95_130, x95_131, x95_133, x95_136, x95_139, x95_140, x95_141, x95_144, x95_145, x95_146, x95_148, x95_151, x95_152, x95_154, x95_155, x95_156, x95_159, x95_160, x95_163, x95_164, x95_165, x95_167, x95_168, x95_172, x95_175, x95_176, x95_179, x95_181, x95_182, x95_184, x95_185, x95_188, x95_190, x95_191, x95_194, x95_195, x95_197, x95_199, x95_203, x95_206, gI_sI, gI_sR, gI_sA, gI_sL, gI_sF, gI_sQ, gI_sG, gI_sN, gR_sI, gR_sR, gR_sA, gR_sL, gR_sF, gR_sQ, gR_sG, gR_sN, gA_sI, gA_sR, gA_sA, gA_sL, gA_sF, gA_sQ, gA_sG, gA_sN, gL_sI, gL_sR, gL_sA, gL_sL, gL_sF, gL_sQ, gL_sG, gL_sN, gF_sI, gF_sR, gF_sA, gF_sL, gF_sF, gF_sQ, gF_sG, gF_sN, gQ_sI, gQ_sR, gQ_sA, gQ_sL, gQ_sF, gQ_sQ, gQ_sG, gQ_sN, gN_sI, gN_sR, gN_sA, gN_sL, gN_sF, gN_sQ, gN_sG, gN_sN, gS_sI, gS_sR, gS_sA, gS_sL, gS_sF, gS_sQ, gS_sG, gS_sN, gO_sI, gO_sR, gO_sA, gO_sL, gO_sF, gO_sQ, gO_sN, isR_ref, isR_null, isR_rf, isR2_ref, isR2_null, isR2_rf, am_k_int, am_k_ref, am_k_null, am_k_rf, am_k_none, am_k_long, am_k_double, rf_some, rf_none, KT_ret, KT_void, XP_ap, true_and, and_true, Nat.reduceAdd, Nat.reduceEqDiff, reduceIte, if_true, if_false, eq_self, true_or, or_true, forall_const, not_true_eq_false, not_false_eq_true]
        exact ⟨fun _ => h _ _, fun z => absurd z (by decide)⟩
      | cons i js ih =>
        intro l D1 a5 hc hnd hl h519 h
        obtain ⟨rfl, h1, h2, l', h3, h4⟩ := hc
        obtain ⟨hni, hnd⟩ := List.nodup_cons.mp hnd
        have hi1 : (i32 l).toNatClampNeg = l := i32_nat (by omega)
        have hi2 : vp_in (i32 l) 124 = True := eq_true ((i32_in (by omega)).mpr (by omega))
        have h4' : ch (gA (sA D1 517 l (i32 (m + 3))) 517) l' js := h4.congr fun i hi => gA_ne (by rintro ⟨_, rfl⟩; exact hni hi)
        have hl' : l' < 124 := by
          match js, h4 with
          | [], h4 => have h4 : l' = 0 := h4; omega
          | i :: js, h4 => have := h4.1; have := h4.2.2.1; omega
        have e0 : ((0 : Int32) < i32 l) ↔ 0 < l := i32_lt (a := 0) (b := l) (by omega) (by omega)
        rw [x95_170]
        simp only [x95_0, x95_1, x95_2, x95_3, x95_6, x95_7, x95_10, x95_11, x95_12, x95_13, x95_14, x95_15, x95_16, x95_19, x95_20, x95_23, x95_24, x95_25, x95_26, x95_29, x95_30, x95_31, x95_34, x95_35, x95_36, x95_37, x95_40, x95_41, x95_44, x95_45, x95_46, x95_49, x95_50, x95_53, x95_54, x95_55, x95_56, x95_59, x95_62, x95_63, x95_65, x95_66, x95_67, x95_70, x95_71, x95_73, x95_74, x95_77, x95_78, x95_79, x95_81, x95_82, x95_83, x95_86, x95_87, x95_90, x95_91, x95_92, x95_93, x95_94, x95_97, x95_98, x95_101, x95_102, x95_103, x95_104, x95_107, x95_108, x95_109, x95_112, x95_113, x95_114, x95_117, x95_118, x95_119, x95_121, x95_122, x95_123, x95_124, x95_126, x95_127, x95_128, x95_129, x95_130, x95_131, x95_133, x95_136, x95_139, x95_140, x95_141, x95_144, x95_145, x95_146, x95_148, x95_151, x95_152, x95_154, x95_155, x95_156, x95_159, x95_160, x95_163, x95_164, x95_165, x95_167, x95_168, x95_172, x95_175, x95_176, x95_179, x95_181, x95_182, x95_184, x95_185, x95_188, x95_190, x95_191, x95_194, x95_195, x95_197, x95_199, x95_203, x95_206, gI_sI, gI_sR, gI_sA, gI_sL, gI_sF, gI_sQ, gI_sG, gI_sN, gR_sI, gR_sR, gR_sA, gR_sL, gR_sF, gR_sQ, gR_sG, gR_sN, gA_sI, gA_sR, gA_sA, gA_sL, gA_sF, gA_sQ, gA_sG, gA_sN, gL_sI, gL_sR, gL_sA, gL_sL, gL_sF, gL_sQ, gL_sG, gL_sN, gF_sI, gF_sR, gF_sA, gF_sL, gF_sF, gF_sQ, gF_sG, gF_sN, gQ_sI, gQ_sR, gQ_sA, gQ_sL, gQ_sF, gQ_sQ, gQ_sG, gQ_sN, gN_sI, gN_sR, gN_sA, gN_sL, gN_sF, gN_sQ, gN_sG, gN_sN, gS_sI, gS_sR, gS_sA, gS_sL, gS_sF, gS_sQ, gS_sG, gS_sN, gO_sI, gO_sR, gO_sA, gO_sL, gO_sF, gO_sQ, gO_sN, isR_ref, isR_null, isR_rf, isR2_ref, isR2_null, isR2_rf, am_k_int, am_k_ref, am_k_null, am_k_rf, am_k_none, am_k_long, am_k_double, rf_some, rf_none, KT_ret, KT_void, XP_ap, true_and, and_true, Nat.reduceAdd, Nat.reduceEqDiff, reduceIte, if_true, if_false, eq_self, true_or, or_true, forall_const, not_true_eq_false, not_false_eq_true, hi1, hi2, h3, h519]
        rw [e0]
        refine ⟨fun z => absurd h1 z, fun _ => ?_⟩
        exact ih l' _ _ h4' hnd hl' h519 h
    refine key2 ((m + 1) :: js) (m + 1) _ none ?_ ?_ (by omega) rfl (fun a4 a5 => ?_)
    · refine ⟨rfl, by omega, by omega, l, ?_, ?_⟩
      · simp [gA_sI, gA_sA]
      · refine hch.congr fun i hi => ?_
        have := hjs i hi
        repeat (first | rw [gA_sI] | rw [gA_ne (by omega)])
    · exact List.nodup_cons.mpr ⟨fun z => by have := hjs _ z; omega, hnd⟩
    simp only [x95_0, x95_1, x95_2, x95_3, x95_6, x95_7, x95_10, x95_11, x95_12, x95_13, x95_15, x95_16, x95_19, x95_20, x95_23, x95_24, x95_25, x95_26, x95_29, x95_30, x95_31, x95_34, x95_35, x95_36, x95_37, x95_40, x95_41, x95_44, x95_45, x95_46, x95_49, x95_50, x95_53, x95_54, x95_55, x95_56, x95_59, x95_63, x95_65, x95_66, x95_67, x95_70, x95_71, x95_73, x95_74, x95_77, x95_78, x95_79, x95_81, x95_82, x95_83, x95_86, x95_87, x95_90, x95_91, x95_92, x95_93, x95_94, x95_97, x95_98, x95_101, x95_102, x95_103, x95_104, x95_107, x95_108, x95_109, x95_112, x95_113, x95_114, x95_117, x95_118, x95_119, x95_121, x95_122, x95_123, x95_124, x95_126, x95_127, x95_128, x95_129, x95_130, x95_131, x95_133, x95_136, x95_139, x95_140, x95_141, x95_144, x95_145, x95_146, x95_148, x95_151, x95_152, x95_154, x95_155, x95_156, x95_159, x95_160, x95_163, x95_164, x95_165, x95_167, x95_168, x95_172, x95_175, x95_176, x95_179, x95_181, x95_182, x95_184, x95_185, x95_188, x95_190, x95_191, x95_194, x95_195, x95_197, x95_199, x95_202, x95_203, x95_206, x95_202, gI_sI, gI_sR, gI_sA, gI_sL, gI_sF, gI_sQ, gI_sG, gI_sN, gR_sI, gR_sR, gR_sA, gR_sL, gR_sF, gR_sQ, gR_sG, gR_sN, gA_sI, gA_sR, gA_sA, gA_sL, gA_sF, gA_sQ, gA_sG, gA_sN, gL_sI, gL_sR, gL_sA, gL_sL, gL_sF, gL_sQ, gL_sG, gL_sN, gF_sI, gF_sR, gF_sA, gF_sL, gF_sF, gF_sQ, gF_sG, gF_sN, gQ_sI, gQ_sR, gQ_sA, gQ_sL, gQ_sF, gQ_sQ, gQ_sG, gQ_sN, gN_sI, gN_sR, gN_sA, gN_sL, gN_sF, gN_sQ, gN_sG, gN_sN, gS_sI, gS_sR, gS_sA, gS_sL, gS_sF, gS_sQ, gS_sG, gS_sN, gO_sI, gO_sR, gO_sA, gO_sL, gO_sF, gO_sQ, gO_sN, isR_ref, isR_null, isR_rf, isR2_ref, isR2_null, isR2_rf, am_k_int, am_k_ref, am_k_null, am_k_rf, am_k_none, am_k_long, am_k_double, rf_some, rf_none, KT_ret, KT_void, XP_ap, true_and, and_true, Nat.reduceAdd, Nat.reduceEqDiff, reduceIte, if_true, if_false, eq_self, true_or, or_true, forall_const, not_true_eq_false, not_false_eq_true]
    refine m_endsDeep (k := dep) (j := k) (by rw [pat_gI]; exact hdp) (by omega) (by rw [pat_gI]; exact hk) (by omega) (by omega) ?_
    simp only [x95_0, x95_1, x95_2, x95_3, x95_6, x95_7, x95_10, x95_11, x95_12, x95_13, x95_15, x95_16, x95_19, x95_20, x95_23, x95_24, x95_25, x95_26, x95_29, x95_30, x95_31, x95_34, x95_35, x95_36, x95_37, x95_40, x95_41, x95_44, x95_45, x95_46, x95_49, x95_50, x95_53, x95_54, x95_55, x95_56, x95_59, x95_63, x95_65, x95_66, x95_67, x95_70, x95_71, x95_73, x95_74, x95_77, x95_78, x95_79, x95_81, x95_82, x95_83, x95_86, x95_87, x95_90, x95_91, x95_92, x95_93, x95_94, x95_97, x95_98, x95_101, x95_102, x95_103, x95_104, x95_107, x95_108, x95_109, x95_112, x95_113, x95_114, x95_117, x95_118, x95_119, x95_121, x95_122, x95_123, x95_124, x95_126, x95_127, x95_128, x95_129, x95_130, x95_131, x95_133, x95_136, x95_139, x95_140, x95_141, x95_144, x95_145, x95_146, x95_148, x95_151, x95_152, x95_154, x95_155, x95_156, x95_159, x95_160, x95_163, x95_164, x95_165, x95_167, x95_168, x95_172, x95_175, x95_176, x95_179, x95_181, x95_182, x95_184, x95_185, x95_188, x95_190, x95_191, x95_194, x95_195, x95_197, x95_199, x95_202, x95_203, x95_206, gI_sI, gI_sR, gI_sA, gI_sL, gI_sF, gI_sQ, gI_sG, gI_sN, gR_sI, gR_sR, gR_sA, gR_sL, gR_sF, gR_sQ, gR_sG, gR_sN, gA_sI, gA_sR, gA_sA, gA_sL, gA_sF, gA_sQ, gA_sG, gA_sN, gL_sI, gL_sR, gL_sA, gL_sL, gL_sF, gL_sQ, gL_sG, gL_sN, gF_sI, gF_sR, gF_sA, gF_sL, gF_sF, gF_sQ, gF_sG, gF_sN, gQ_sI, gQ_sR, gQ_sA, gQ_sL, gQ_sF, gQ_sQ, gQ_sG, gQ_sN, gN_sI, gN_sR, gN_sA, gN_sL, gN_sF, gN_sQ, gN_sG, gN_sN, gS_sI, gS_sR, gS_sA, gS_sL, gS_sF, gS_sQ, gS_sG, gS_sN, gO_sI, gO_sR, gO_sA, gO_sL, gO_sF, gO_sQ, gO_sN, isR_ref, isR_null, isR_rf, isR2_ref, isR2_null, isR2_rf, am_k_int, am_k_ref, am_k_null, am_k_rf, am_k_none, am_k_long, am_k_double, rf_some, rf_none, KT_ret, KT_void, XP_ap, true_and, and_true, Nat.reduceAdd, Nat.reduceEqDiff, reduceIte, if_true, if_false, eq_self, true_or, or_true, forall_const, not_true_eq_false, not_false_eq_true]
    refine ⟨_, rfl, rfl, ?_⟩
    have hmn : ∀ i, i ∈ (m + 1) :: js → i = m + 1 ∨ i < m := by
      intro i hi
      rcases List.mem_cons.mp hi with h | h
      · exact .inl h
      · exact .inr (hjs i h)
    by_cases hg : hr tx n (sk tx n p) = 125
    · refine hg2 hg _ (MFR.seti (MFR.seti (MFR.pt (by repeat (first | exact MFR.refl | refine MFR.seti ?_ (by decide) | refine MFR.both ?_ | refine MFR.set ?_ (.inr (.inr ⟨by decide, by omega⟩)) | refine MFR.set ?_ (.inl ⟨by decide, by omega⟩) | refine MFR.set ?_ (.inr (.inl ⟨by decide, by omega⟩)))) hjs) (by decide)) (by decide)) ⟨?_, ?_, rfl, rfl, ?_, ?_, ?_⟩ ⟨?_, ?_, ?_⟩ ⟨?_, ?_, ?_⟩ ⟨?_, ?_, ?_⟩
      · refine TM.mfr (k := 0) (m := 0) (s := 0) hT (MFR.seti (MFR.seti (MFR.trans ?_ MFR.pz) (by decide)) (by decide))
        exact (by repeat (first | exact MFR.refl | refine MFR.seti ?_ (by decide) | refine MFR.both ?_ | refine MFR.set ?_ (.inr (.inr ⟨by decide, by omega⟩)) | refine MFR.set ?_ (.inl ⟨by decide, by omega⟩) | refine MFR.set ?_ (.inr (.inl ⟨by decide, by omega⟩))))
      · show gI (pat _ _ _) 515 = _
        rw [pat_gI]
        show i32 (wp tx n 125 (sk tx n p)) = _
        unfold wp
        rw [sk_sk, if_pos hg]
      · show gI (pat _ _ _) 519 = _
        rw [pat_gI]; rfl
      · show gI (pat _ _ _) 526 = _
        rw [pat_gI]; exact hsg
      · show gI (pat _ _ _) 536 = _
        rw [pat_gI]; exact b_1 hg
      · rw [gA_sI, gA_sI, pat_gA (.inr (by decide))]; simp [gA_sI, gA_sA]; rfl
      · rw [gA_sI, gA_sI, pat_gA (.inl fun z => by have := hmn _ z; omega)]; simp [gA_sI, gA_sA]
      · rw [gA_sI, gA_sI, pat_gA (.inr (by decide))]; simp [gA_sI, gA_sA]
      · rw [gA_sI, gA_sI, pat_gA (.inr (by decide))]; simp [gA_sI, gA_sA]; rfl
      · rw [gA_sI, gA_sI]; exact pat_in (List.mem_cons_self ..)
      · rw [gA_sI, gA_sI, pat_gA (.inr (by decide))]; simp [gA_sI, gA_sA]
      · rw [gA_sI, gA_sI, pat_gA (.inr (by decide))]; simp [gA_sI, gA_sA]; rfl
      · rw [gA_sI, gA_sI, pat_gA (.inl fun z => by have := hmn _ z; omega)]; simp [gA_sI, gA_sA]
      · rw [gA_sI, gA_sI, pat_gA (.inr (by decide))]; simp [gA_sI, gA_sA]
    · refine hb2 hbar hg _ (MFR.seti (MFR.seti (MFR.trans ?_ MFR.pz) (by decide)) (by decide)) ?_
      · exact (by repeat (first | exact MFR.refl | refine MFR.seti ?_ (by decide) | refine MFR.both ?_ | refine MFR.set ?_ (.inr (.inr ⟨by decide, by omega⟩)) | refine MFR.set ?_ (.inl ⟨by decide, by omega⟩) | refine MFR.set ?_ (.inr (.inl ⟨by decide, by omega⟩))))
      · show gI (pat _ _ _) 536 = _
        rw [pat_gI]; exact b_2 hg
end WC
