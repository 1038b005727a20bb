/-! FunDeskModel: the names of a row -/
set_option maxRecDepth 100000
section NE
variable {d : Nat} {D D' D'' : sS} {Q : am_O → am_H → Prop} {p s m L a c M lo hi lo' hi' k j q : Nat} {v x t : Int32} {G : List Nat}
theorem idx_app {pre Δ : List Nat} (h : c ∉ pre) : (pre ++ c :: Δ).idxOf c = pre.length := by
  induction pre with
  | nil => exact List.idxOf_cons_self
  | cons z pre ih =>
    have h1 : ¬ z = c := fun e => h (e ▸ List.mem_cons_self ..)
    have h2 : (z == c) = false := by simp [h1]
    rw [List.cons_append, List.idxOf_cons, h2, cond_false, ih (fun e => h (List.mem_cons_of_mem _ e))]
    rfl
theorem n_nam (hM : gI D 519 = i32 M) (hpM : p < M) (hM2 : M ≤ 122) (h5 : gA D 516 p = i32 5) (hc : gA D 518 p = i32 c) (hcb : c < 128) (hN : NR D G) (hG : ∀ x, x ∈ G → x < 128) (hL : gI D 542 = i32 G.length) (hL2 : G.length < 64) (hd : 5 ≤ d) (h1 : c ∈ G → HN d Q (sA D 517 p (i32 (G.idxOf c))) (p + 1)) (h0 : c ∉ G → Q (.inl (some (.int 0))) (toH D)) : HN d Q D p := by
  intro b
  have hp2 : (i32 p).toNatClampNeg = p := i32_nat (by omega)
  have hp3 : vp_in (i32 p) 124 = True := eq_true ((i32_in (by omega)).mpr (by omega))
  have h5' : gA D 516 p = 5 := h5
  have key : ∀ (Δ pre : List Nat), G = pre ++ Δ → c ∉ pre → XW 108 d Q 32 [some (.ref 40), some (.int (i32 p)), some (.int (i32 Δ.length - 1))] [] (toH D) := by
    intro Δ
    induction Δ with
    | nil =>
      intro pre hpre hn
      have hz : ((i32 ([] : List Nat).length - 1 : Int32) < 0) = True := eq_true (by decide)
      rw [x108_32]
      simp only [x108_0, x108_1, x108_2, x108_5, x108_6, x108_8, x108_9, x108_12, x108_15, x108_16, x108_19, x108_20, x108_21, x108_22, x108_25, x108_26, x108_29, x108_30, x108_31, x108_33, x108_36, x108_37, x108_40, x108_41, x108_42, x108_43, x108_46, x108_47, x108_48, x108_51, x108_54, x108_57, x108_58, x108_61, x108_62, x108_63, x108_64, x108_67, x108_68, x108_69, x108_72, x108_73, x108_74, x108_75, x108_76, x108_77, x108_78, x108_79, x108_82, x108_85, x108_88, x108_89, gI_sI, gI_sR, gI_sA, gI_sL, gI_sF, gI_sQ, gI_sG, gI_sN, gR_sI, gR_sR, gR_sA, gR_sL, gR_sF, gR_sQ, gR_sG, gR_sN, gA_sI, gA_sR, gA_sA, gA_sL, gA_sF, gA_sQ, gA_sG, gA_sN, gL_sI, gL_sR, gL_sA, gL_sL, gL_sF, gL_sQ, gL_sG, gL_sN, gF_sI, gF_sR, gF_sA, gF_sL, gF_sF, gF_sQ, gF_sG, gF_sN, gQ_sI, gQ_sR, gQ_sA, gQ_sL, gQ_sF, gQ_sQ, gQ_sG, gQ_sN, gN_sI, gN_sR, gN_sA, gN_sL, gN_sF, gN_sQ, gN_sG, gN_sN, gS_sI, gS_sR, gS_sA, gS_sL, gS_sF, gS_sQ, gS_sG, gS_sN, gO_sI, gO_sR, gO_sA, gO_sL, gO_sF, gO_sQ, gO_sN, isR_ref, isR_null, isR_rf, isR2_ref, isR2_null, isR2_rf, am_k_int, am_k_ref, am_k_null, am_k_rf, am_k_none, am_k_long, am_k_double, rf_some, rf_none, KT_ret, KT_void, XP_ap, true_and, and_true, Nat.reduceAdd, Nat.reduceEqDiff, reduceIte, if_true, if_false, eq_self, true_or, or_true, forall_const, not_true_eq_false, not_false_eq_true, hz, false_imp_iff, true_imp_iff]
      refine h0 ?_
      rw [hpre, List.append_nil]; exact hn
    | cons c' Δ ih =>
      intro pre hpre hn
      have e1 : i32 (c' :: Δ).length - 1 = i32 Δ.length := i32_sub1 (by show 1 ≤ Δ.length + 1; omega) (by
        have : (pre ++ c' :: Δ).length = pre.length + (Δ.length + 1) := List.length_append
        rw [← hpre] at this
        show Δ.length + 1 < _; omega)
      have hlen : G.length = pre.length + (Δ.length + 1) := by rw [hpre]; exact List.length_append
      rw [e1]
      have hz : (i32 Δ.length < 0) = False := eq_false (i32_neg (by omega))
      have hk1 : (i32 Δ.length).toNatClampNeg = Δ.length := i32_nat (by omega)
      have hk2 : vp_in (i32 Δ.length) 64 = True := eq_true ((i32_in (by omega)).mpr (by omega))
      have hnm : gA D 539 Δ.length = i32 c' := by rw [hpre] at hN; exact hN.tail.1
      have hc' : c' < 128 := hG c' (by rw [hpre]; exact List.mem_append_right _ (List.mem_cons_self ..))
      rw [x108_32]
      simp only [x108_0, x108_1, x108_2, x108_5, x108_6, x108_8, x108_9, x108_12, x108_15, x108_16, x108_19, x108_20, x108_21, x108_22, x108_25, x108_26, x108_29, x108_30, x108_31, x108_33, x108_36, x108_37, x108_40, x108_41, x108_42, x108_43, x108_46, x108_47, x108_48, x108_51, x108_54, x108_57, x108_58, x108_61, x108_62, x108_63, x108_64, x108_67, x108_68, x108_69, x108_72, x108_73, x108_74, x108_75, x108_76, x108_77, x108_78, x108_79, x108_82, x108_85, x108_88, x108_89, gI_sI, gI_sR, gI_sA, gI_sL, gI_sF, gI_sQ, gI_sG, gI_sN, gR_sI, gR_sR, gR_sA, gR_sL, gR_sF, gR_sQ, gR_sG, gR_sN, gA_sI, gA_sR, gA_sA, gA_sL, gA_sF, gA_sQ, gA_sG, gA_sN, gL_sI, gL_sR, gL_sA, gL_sL, gL_sF, gL_sQ, gL_sG, gL_sN, gF_sI, gF_sR, gF_sA, gF_sL, gF_sF, gF_sQ, gF_sG, gF_sN, gQ_sI, gQ_sR, gQ_sA, gQ_sL, gQ_sF, gQ_sQ, gQ_sG, gQ_sN, gN_sI, gN_sR, gN_sA, gN_sL, gN_sF, gN_sQ, gN_sG, gN_sN, gS_sI, gS_sR, gS_sA, gS_sL, gS_sF, gS_sQ, gS_sG, gS_sN, gO_sI, gO_sR, gO_sA, gO_sL, gO_sF, gO_sQ, gO_sN, isR_ref, isR_null, isR_rf, isR2_ref, isR2_null, isR2_rf, am_k_int, am_k_ref, am_k_null, am_k_rf, am_k_none, am_k_long, am_k_double, rf_some, rf_none, KT_ret, KT_void, XP_ap, true_and, and_true, Nat.reduceAdd, Nat.reduceEqDiff, reduceIte, if_true, if_false, eq_self, true_or, or_true, forall_const, not_true_eq_false, not_false_eq_true, hz, hk1, hk2, hnm, hp2, hp3, hc, hL, false_imp_iff, true_imp_iff]
      rw [i32_eq (by omega) (by omega)]
      refine ⟨fun z => ?_, fun z => ?_⟩
      · subst z
        have hin : c' ∈ G := by rw [hpre]; exact List.mem_append_right _ (List.mem_cons_self ..)
        have e2 : i32 G.length - 1 - i32 Δ.length = i32 (G.idxOf c') := by
          rw [i32_sub1 (by omega) (by omega), i32_sub (by omega) (by omega), hpre, idx_app hn, List.length_append]
          congr 1
          show pre.length + (Δ.length + 1) - 1 - Δ.length = _
          omega
        rw [e2]
        have h1 := h1 hin
        refine n_sc (L := G.length) (a := 5) (by omega) (by rw [gA_ne (by omega)]; exact h5) (by omega) hL (by omega) (by omega) (fun z => by omega) (fun z => by omega) (fun z => by omega) (fun z => by omega) (fun _ => ?_)
        simp only [x108_0, x108_1, x108_2, x108_5, x108_6, x108_8, x108_9, x108_12, x108_15, x108_16, x108_19, x108_20, x108_21, x108_22, x108_25, x108_26, x108_29, x108_30, x108_31, x108_33, x108_36, x108_37, x108_40, x108_41, x108_42, x108_43, x108_46, x108_47, x108_48, x108_51, x108_54, x108_57, x108_58, x108_61, x108_62, x108_63, x108_64, x108_67, x108_68, x108_69, x108_72, x108_73, x108_74, x108_75, x108_76, x108_77, x108_78, x108_79, x108_82, x108_85, x108_88, x108_89, gI_sI, gI_sR, gI_sA, gI_sL, gI_sF, gI_sQ, gI_sG, gI_sN, gR_sI, gR_sR, gR_sA, gR_sL, gR_sF, gR_sQ, gR_sG, gR_sN, gA_sI, gA_sR, gA_sA, gA_sL, gA_sF, gA_sQ, gA_sG, gA_sN, gL_sI, gL_sR, gL_sA, gL_sL, gL_sF, gL_sQ, gL_sG, gL_sN, gF_sI, gF_sR, gF_sA, gF_sL, gF_sF, gF_sQ, gF_sG, gF_sN, gQ_sI, gQ_sR, gQ_sA, gQ_sL, gQ_sF, gQ_sQ, gQ_sG, gQ_sN, gN_sI, gN_sR, gN_sA, gN_sL, gN_sF, gN_sQ, gN_sG, gN_sN, gS_sI, gS_sR, gS_sA, gS_sL, gS_sF, gS_sQ, gS_sG, gS_sN, gO_sI, gO_sR, gO_sA, gO_sL, gO_sF, gO_sQ, gO_sN, isR_ref, isR_null, isR_rf, isR2_ref, isR2_null, isR2_rf, am_k_int, am_k_ref, am_k_null, am_k_rf, am_k_none, am_k_long, am_k_double, rf_some, rf_none, KT_ret, KT_void, XP_ap, true_and, and_true, Nat.reduceAdd, Nat.reduceEqDiff, reduceIte, if_true, if_false, eq_self, true_or, or_true, forall_const, not_true_eq_false, not_false_eq_true]
        rw [i32_add1]
        exact h1 _
      · have e3 : i32 Δ.length + -1 = i32 Δ.length - 1 := (Int32.sub_eq_add_neg _ _).symm
        rw [e3]
        refine ih (pre ++ [c']) (by rw [hpre, List.append_assoc]; rfl) ?_
        rw [List.mem_append, List.mem_singleton]
        rintro (y | y)
        · exact hn y
        · exact z y.symm
  rw [x108_7]
  simp only [x108_0, x108_1, x108_2, x108_5, x108_6, x108_8, x108_9, x108_12, x108_15, x108_16, x108_19, x108_20, x108_21, x108_22, x108_25, x108_26, x108_29, x108_30, x108_31, x108_33, x108_36, x108_37, x108_40, x108_41, x108_42, x108_43, x108_46, x108_47, x108_48, x108_51, x108_54, x108_57, x108_58, x108_61, x108_62, x108_63, x108_64, x108_67, x108_68, x108_69, x108_72, x108_73, x108_74, x108_75, x108_76, x108_77, x108_78, x108_79, x108_82, x108_85, x108_88, x108_89, gI_sI, gI_sR, gI_sA, gI_sL, gI_sF, gI_sQ, gI_sG, gI_sN, gR_sI, gR_sR, gR_sA, gR_sL, gR_sF, gR_sQ, gR_sG, gR_sN, gA_sI, gA_sR, gA_sA, gA_sL, gA_sF, gA_sQ, gA_sG, gA_sN, gL_sI, gL_sR, gL_sA, gL_sL, gL_sF, gL_sQ, gL_sG, gL_sN, gF_sI, gF_sR, gF_sA, gF_sL, gF_sF, gF_sQ, gF_sG, gF_sN, gQ_sI, gQ_sR, gQ_sA, gQ_sL, gQ_sF, gQ_sQ, gQ_sG, gQ_sN, gN_sI, gN_sR, gN_sA, gN_sL, gN_sF, gN_sQ, gN_sG, gN_sN, gS_sI, gS_sR, gS_sA, gS_sL, gS_sF, gS_sQ, gS_sG, gS_sN, gO_sI, gO_sR, gO_sA, gO_sL, gO_sF, gO_sQ, gO_sN, isR_ref, isR_null, isR_rf, isR2_ref, isR2_null, isR2_rf, am_k_int, am_k_ref, am_k_null, am_k_rf, am_k_none, am_k_long, am_k_double, rf_some, rf_none, KT_ret, KT_void, XP_ap, true_and, and_true, Nat.reduceAdd, Nat.reduceEqDiff, reduceIte, if_true, if_false, eq_self, true_or, or_true, forall_const, not_true_eq_false, not_false_eq_true, hM, hp2, hp3, c_y h5', hL, false_imp_iff, true_imp_iff]
  rw [i32_lt (by omega) (by omega)]
  exact ⟨fun z => by omega, fun _ => key G [] rfl (by simp)⟩
/-- signs that bind or end nothing -/
theorem n_oth (hM : gI D 519 = i32 M) (hpM : p < M) (hM2 : M ≤ 122) (ha : gA D 516 p = i32 a) (ha2 : a < 100) (hn : ¬ (a = 5 ∨ a = 6 ∨ a = 10 ∨ a = 19 ∨ a = 16 ∨ a = 7 ∨ a = 12)) (hL : gI D 542 = i32 L) (hL2 : L < 64) (hd : 5 ≤ d) (h : HN d Q D (p + 1)) : HN d Q D p :=
  n_go hM hpM hM2 ha ha2 (by omega) (n_sc (L := L) (by omega) ha ha2 hL hL2 (by omega) (fun z => by omega) (fun z => by omega) (fun z => by omega) (fun z => by omega) (fun _ => ⟨D, rfl, rfl, h⟩))
/-- a name is bound -/
theorem n_bnd (hM : gI D 519 = i32 M) (hpM : p < M) (hM2 : M ≤ 122) (ha : gA D 516 p = i32 a) (hn : a = 6 ∨ a = 10 ∨ a = 19) (hc : gA D 518 p = i32 c) (hN : NR D G) (hL : gI D 542 = i32 G.length) (hL2 : G.length < 63) (hd : 5 ≤ d) (h : ∀ D', NFR 0 0 D D' → NR D' (c :: G) → gI D' 542 = i32 (c :: G).length → HN d Q D' (p + 1)) : HN d Q D p := by
  refine n_go hM hpM hM2 ha (by omega) (by omega) (n_sc (L := G.length) (by omega) ha (by omega) hL (by omega) (by omega) (fun _ => ⟨hL2, ⟨_, rfl, rfl, h _ (((NFR.refl.na (.inl rfl)).na (.inr (.inl rfl))).na (.inr (.inr rfl))).ar ⟨?_, ?_⟩ rfl⟩⟩) (fun z => by omega) (fun z => by omega) (fun z => by omega) (fun z => by omega))
  · rw [gA_sI, gA_ne (by omega), gA_ne (by omega), gA_eq]; exact hc
  · refine hN.congr fun j hj => ?_
    rw [gA_sI, gA_ne (by omega), gA_ne (by omega), gA_ne (by omega)]
/-- names end -/
theorem n_end {X : List Nat} (hM : gI D 519 = i32 M) (hpM : p < M) (hM2 : M ≤ 122) (ha : gA D 516 p = i32 a) (hn : (a = 7 ∧ X.length = 1) ∨ (a = 12 ∧ gA D 517 p = i32 X.length)) (hN : NR D (X ++ G)) (hL : gI D 542 = i32 (X ++ G).length) (hL2 : (X ++ G).length < 64) (hd : 5 ≤ d) (h : ∀ D', NFR 0 0 D D' → NR D' G → gI D' 542 = i32 G.length → HN d Q D' (p + 1)) : HN d Q D p := by
  have hlen : (X ++ G).length = X.length + G.length := List.length_append
  refine n_go hM hpM hM2 ha (by omega) (by omega) (n_sc (L := (X ++ G).length) (by omega) ha (by omega) hL hL2 (by omega) (fun z => by omega) (fun z => by omega) (fun z => ⟨by omega, ⟨_, rfl, rfl, h _ NFR.refl.ar (NR.congr (D := D) (fun _ _ => rfl) hN.tail) ?_⟩⟩) (fun z => ⟨X.length, (hn.resolve_left (by omega)).2, by omega, ⟨_, rfl, rfl, h _ NFR.refl.ar (NR.congr (D := D) (fun _ _ => rfl) hN.tail) ?_⟩⟩) (fun z => by omega))
  · show i32 _ = _; congr 1; omega
  · show i32 _ = _; congr 1; omega
/-- a pattern's names are bound -/
theorem n_pat {e : tE} {s0 : Nat} (hM : gI D 519 = i32 M) (hpM : p < M) (hM2 : M ≤ 122) (ha : gA D 516 p = i32 16) (he : PC e) (h517 : gA D 517 p = i32 s0) (h518 : gA D 518 p = i32 (s0 + (pl e).length)) (hs : s0 + (pl e).length ≤ 80) (hR : RS (Gdr D) s0 (pl e)) (hN : NR D G) (hL : gI D 542 = i32 G.length) (hL2 : G.length + (pv e).length < 64) (hd : 5 ≤ d) (h : ∀ D', NFR 0 0 D D' → NR D' ((pv e).reverse ++ G) → gI D' 542 = i32 (G.length + (pv e).length) → HN d Q D' (p + 1)) : HN d Q D p :=
  n_go hM hpM hM2 ha (by omega) (by omega) (n_sc (L := G.length) (by omega) ha (by omega) hL (by omega) (by omega) (fun z => by omega) (fun _ => n_pats he (by omega) h517 h518 hs hR hN hL hL2 (by omega) fun D' z1 z2 z3 => ⟨D', rfl, rfl, ⟨D', rfl, rfl, h D' z1 z2 z3⟩⟩) (fun z => by omega) (fun z => by omega) (fun z => by omega))
end NE
