/-! FunDeskModel: the names of a row, one sign -/
set_option maxRecDepth 100000
/-- what finding names may change -/
def NFR (lo hi : Nat) (D D' : sS) : Prop := (∀ q, ¬ q = 542 → gI D' q = gI D q) ∧ (∀ q j, ¬ (q = 539 ∨ q = 540 ∨ q = 541 ∨ (q = 517 ∧ lo ≤ j ∧ j < hi)) → gA D' q j = gA D q j) ∧ D'.2.1 = D.2.1 ∧ D'.2.2.2 = D.2.2.2
/-- the names around, the innermost last -/
def NR (D : sS) : List Nat → Prop
  | [] => True
  | c :: G => gA D 539 G.length = i32 c ∧ NR D G
def nl : List (Nat × Nat) → List Nat
  | [] => []
  | (a, b) :: M => if a = 1 ∧ 0 < b then b :: nl M else nl M
def HN (d : Nat) (Q : am_O → am_H → Prop) (D : sS) (p : Nat) : Prop := ∀ b, XW 108 d Q 7 [some (.ref 40), some (.int (i32 p)), b] [] (toH D)
section ND
variable {d : Nat} {D D' D'' : sS} {Q : am_O → am_H → Prop} {p s m L a c M lo hi lo' hi' k j q : Nat} {v x t : Int32} {G : List Nat}
theorem NFR.refl : NFR lo hi D D := ⟨fun _ _ => rfl, fun _ _ _ => rfl, rfl, rfl⟩
theorem NFR.trans (h : NFR lo hi D D') (h' : NFR lo hi D' D'') : NFR lo hi D D'' := ⟨fun q z => (h'.1 q z).trans (h.1 q z), fun q j z => (h'.2.1 q j z).trans (h.2.1 q j z), h'.2.2.1.trans h.2.2.1, h'.2.2.2.trans h.2.2.2⟩
theorem NFR.le (h : NFR lo hi D D') (h1 : lo' ≤ lo) (h2 : hi ≤ hi') : NFR lo' hi' D D' := ⟨h.1, fun q j z => h.2.1 q j (by omega), h.2.2⟩
theorem NFR.zero (h : NFR 0 0 D D') : NFR lo hi D D' := ⟨h.1, fun q j z => h.2.1 q j (by omega), h.2.2⟩
theorem NFR.ar (h : NFR lo hi D D') : NFR lo hi D (sI D' 542 v) := ⟨fun q z => by rw [gI_sI, if_neg z]; exact h.1 q z, h.2⟩
theorem NFR.na (h : NFR lo hi D D') (hq : q = 539 ∨ q = 540 ∨ q = 541) : NFR lo hi D (sA D' q j v) := ⟨h.1, fun q' j' z => by rw [gA_ne (by omega)]; exact h.2.1 q' j' z, h.2.2⟩
theorem NFR.dr (h : NFR lo hi D D') (h1 : lo ≤ j) (h2 : j < hi) : NFR lo hi D (sA D' 517 j v) := ⟨h.1, fun q' j' z => by rw [gA_ne (by omega)]; exact h.2.1 q' j' z, h.2.2⟩
theorem NR.congr (hc : ∀ j, j < G.length → gA D' 539 j = gA D 539 j) (h : NR D G) : NR D' G := by
  induction G with
  | nil => trivial
  | cons c G ih =>
    have e : (c :: G).length = G.length + 1 := rfl
    exact ⟨(hc _ (by omega)).trans h.1, ih (fun j hj => hc j (by omega)) h.2⟩
theorem NR.tail {X : List Nat} (h : NR D (X ++ G)) : NR D G := by
  induction X with
  | nil => exact h
  | cons c X ih => exact ih h.2
theorem nl_app {M M' : List (Nat × Nat)} : nl (M ++ M') = nl M ++ nl M' := by
  induction M with
  | nil => rfl
  | cons z M ih =>
    obtain ⟨a, b⟩ := z
    show (if a = 1 ∧ 0 < b then b :: nl (M ++ M') else nl (M ++ M')) = (if a = 1 ∧ 0 < b then b :: nl M else nl M) ++ nl M'
    split
    · rw [ih]; rfl
    · exact ih
theorem nl_pl {e : tE} (h : PC e) : nl (pl e) = pv e ∧ LB (pl e) := by
  induction e with
  | var c =>
    have hc : (show Nat from c) < 65536 := by
      rcases h with h | h
      · exact Nat.lt_of_le_of_lt (Nat.le_of_eq h) (by decide)
      · exact Nat.lt_trans h.2 (by decide)
    constructor
    · show (if 1 = 1 ∧ 0 < c then [c] else []) = (if c = 0 then [] else [c])
      by_cases hc : c = 0
      · rw [if_pos hc, if_neg (fun z => by rw [hc] at z; exact absurd z.2 (by decide))]
      · rw [if_neg hc, if_pos ⟨rfl, Nat.pos_of_ne_zero hc⟩]
    · intro z hz
      have hz : z ∈ [(1, c)] := hz
      rw [List.mem_singleton] at hz
      subst hz
      exact ⟨(by decide : 1 < 65536), hc⟩
  | pow a k ih =>
    cases a with
    | natCast v =>
      obtain ⟨h1, h2, _⟩ := h
      constructor
      · show (if k = 1 ∧ 0 < v then [v] else []) = []
        rw [if_neg (by omega)]
      · intro z hz
        have hz : z ∈ [(k, v)] := hz
        rw [List.mem_singleton] at hz
        subst hz
        exact ⟨by show k < 65536; omega, by show v < 65536; omega⟩
    | _ => exact h.elim
  | mul q r ih1 ih2 =>
    obtain ⟨a1, a2⟩ := ih1 h.1
    obtain ⟨c1, c2⟩ := ih2 h.2
    constructor
    · show (if 0 = 1 ∧ 0 < 0 then 0 :: nl (pl q ++ pl r) else nl (pl q ++ pl r)) = pv q ++ pv r
      rw [if_neg (by omega), nl_app, a1, c1]
    · intro z hz
      have hz : z ∈ (0, 0) :: (pl q ++ pl r) := hz
      rw [List.mem_cons, List.mem_append] at hz
      rcases hz with rfl | hz | hz
      · exact ⟨by decide, by decide⟩
      · exact a2 z hz
      · exact c2 z hz
  | _ => exact h.elim
theorem n_bind (hL : gI D 542 = i32 L) (hL2 : L < 64) (hd : 1 ≤ d) (hQ : Q (.inl none) (toH (sI (sA (sA (sA D 539 L x) 540 L t) 541 L 0) 542 (i32 (L + 1))))) : AC d 110 [.ref 40, .int x, .int t] (toH D) Q := by
  refine AC.pos hd fun d' hd' => ?_
  rw [e110]
  have h1 : (i32 L).toNatClampNeg = L := i32_nat (by omega)
  have h2 : vp_in (i32 L) 64 = True := eq_true ((i32_in (by omega)).mpr hL2)
  simp only [x110_0, x110_1, x110_4, x110_5, x110_8, x110_9, x110_10, x110_11, x110_14, x110_15, x110_18, x110_19, x110_20, x110_21, x110_24, x110_25, x110_28, x110_29, x110_30, x110_31, x110_32, x110_35, x110_36, x110_37, x110_40, gI_sI, gI_sR, gI_sA, gI_sL, gI_sF, gI_sQ, gI_sG, gI_sN, gR_sI, gR_sR, gR_sA, gR_sL, gR_sF, gR_sQ, gR_sG, gR_sN, gA_sI, gA_sR, gA_sA, gA_sL, gA_sF, gA_sQ, gA_sG, gA_sN, gL_sI, gL_sR, gL_sA, gL_sL, gL_sF, gL_sQ, gL_sG, gL_sN, gF_sI, gF_sR, gF_sA, gF_sL, gF_sF, gF_sQ, gF_sG, gF_sN, gQ_sI, gQ_sR, gQ_sA, gQ_sL, gQ_sF, gQ_sQ, gQ_sG, gQ_sN, gN_sI, gN_sR, gN_sA, gN_sL, gN_sF, gN_sQ, gN_sG, gN_sN, gS_sI, gS_sR, gS_sA, gS_sL, gS_sF, gS_sQ, gS_sG, gS_sN, gO_sI, gO_sR, gO_sA, gO_sL, gO_sF, gO_sQ, gO_sN, isR_ref, isR_null, isR_rf, isR2_ref, isR2_null, isR2_rf, am_k_int, am_k_ref, am_k_null, am_k_rf, am_k_none, am_k_long, am_k_double, rf_some, rf_none, KT_ret, KT_void, XP_ap, true_and, and_true, Nat.reduceAdd, Nat.reduceEqDiff, reduceIte, if_true, if_false, eq_self, true_or, or_true, forall_const, not_true_eq_false, not_false_eq_true, hL, h1, h2]
  rw [i32_add1]
  first | exact hQ | exact ⟨by decide, hQ⟩ | exact ⟨rfl, hQ⟩ | exact ⟨.inl rfl, hQ⟩
theorem n_pats {e : tE} {s0 : Nat} (he : PC e) (hp1 : p < 124) (h517 : gA D 517 p = i32 s0) (h518 : gA D 518 p = i32 (s0 + (pl e).length)) (hs : s0 + (pl e).length ≤ 80) (hR : RS (Gdr D) s0 (pl e)) (hN : NR D G) (hL : gI D 542 = i32 G.length) (hL2 : G.length + (pv e).length < 64) (hd : 2 ≤ d) (hQ : ∀ D', NFR 0 0 D D' → NR D' ((pv e).reverse ++ G) → gI D' 542 = i32 (G.length + (pv e).length) → Q (.inl none) (toH D')) : AC d 111 [.ref 40, .int (i32 p)] (toH D) Q := by
  refine AC.pos hd fun d' hd' => ?_
  rw [e111]
  obtain ⟨hnl, hLB⟩ := nl_pl he
  rw [← hnl] at hL2 hQ
  have hp2 : (i32 p).toNatClampNeg = p := i32_nat (by omega)
  have hp3 : vp_in (i32 p) 124 = True := eq_true ((i32_in (by omega)).mpr hp1)
  have key : ∀ (X : List (Nat × Nat)) (k : Nat) (G : List Nat) (D1 : sS), LB X → NFR 0 0 D D1 → RS (Gdr D) k X → k + X.length = s0 + (pl e).length → NR D1 G → gI D1 542 = i32 G.length → G.length + (nl X).length < 64 → (∀ D', NFR 0 0 D D' → NR D' ((nl X).reverse ++ G) → gI D' 542 = i32 (G.length + (nl X).length) → Q (.inl none) (toH D')) → XW 111 d' Q 7 [some (.ref 40), some (.int (i32 p)), some (.int (i32 k))] [] (toH D1) := by
    intro X
    induction X with
    | nil =>
      intro k G D1 _ hF _ hk hN hL hL2 hQ
      have hk : k + 0 = s0 + (pl e).length := hk
      have h518' : gA D1 518 p = i32 (s0 + (pl e).length) := (hF.2.1 518 p (by omega)).trans h518
      rw [x111_7]
      simp only [x111_0, x111_1, x111_4, x111_5, x111_6, x111_8, x111_9, x111_12, x111_13, x111_14, x111_17, x111_18, x111_21, x111_22, x111_23, x111_24, x111_27, x111_28, x111_31, x111_32, x111_33, x111_36, x111_37, x111_38, x111_41, x111_42, x111_43, x111_44, x111_47, x111_50, x111_53, gI_sI, gI_sR, gI_sA, gI_sL, gI_sF, gI_sQ, gI_sG, gI_sN, gR_sI, gR_sR, gR_sA, gR_sL, gR_sF, gR_sQ, gR_sG, gR_sN, gA_sI, gA_sR, gA_sA, gA_sL, gA_sF, gA_sQ, gA_sG, gA_sN, gL_sI, gL_sR, gL_sA, gL_sL, gL_sF, gL_sQ, gL_sG, gL_sN, gF_sI, gF_sR, gF_sA, gF_sL, gF_sF, gF_sQ, gF_sG, gF_sN, gQ_sI, gQ_sR, gQ_sA, gQ_sL, gQ_sF, gQ_sQ, gQ_sG, gQ_sN, gN_sI, gN_sR, gN_sA, gN_sL, gN_sF, gN_sQ, gN_sG, gN_sN, gS_sI, gS_sR, gS_sA, gS_sL, gS_sF, gS_sQ, gS_sG, gS_sN, gO_sI, gO_sR, gO_sA, gO_sL, gO_sF, gO_sQ, gO_sN, isR_ref, isR_null, isR_rf, isR2_ref, isR2_null, isR2_rf, am_k_int, am_k_ref, am_k_null, am_k_rf, am_k_none, am_k_long, am_k_double, rf_some, rf_none, KT_ret, KT_void, XP_ap, true_and, and_true, Nat.reduceAdd, Nat.reduceEqDiff, reduceIte, if_true, if_false, eq_self, true_or, or_true, forall_const, not_true_eq_false, not_false_eq_true, hp2, hp3, h518']
      rw [i32_lt (by omega) (by omega)]
      exact ⟨fun _ => hQ D1 hF hN hL, fun z => by omega⟩
    | cons z X ih =>
      obtain ⟨a, b⟩ := z
      intro k G D1 hLB hF hR hk hN hL hL2 hQ
      have hab := hLB (a, b) (List.mem_cons_self ..)
      have ha1 : a < 65536 := hab.1
      have ha2 : b < 65536 := hab.2
      have hk : k + (X.length + 1) = s0 + (pl e).length := hk
      obtain ⟨⟨g1, g2⟩, hR'⟩ := hR
      have g1 : gA D1 524 k = i32 a := (hF.2.1 524 k (by omega)).trans g1
      have g2 : gA D1 525 k = i32 b := (hF.2.1 525 k (by omega)).trans g2
      have hk1 : (i32 k).toNatClampNeg = k := i32_nat (by omega)
      have hk2 : vp_in (i32 k) 80 = True := eq_true ((i32_in (by omega)).mpr (by omega))
      have h518' : gA D1 518 p = i32 (s0 + (pl e).length) := (hF.2.1 518 p (by omega)).trans h518
      have e1 : (i32 a = 1) ↔ a = 1 := i32_eq (a := a) (b := 1) (by omega) (by omega)
      have e2 : ((0 : Int32) < i32 b) ↔ 0 < b := i32_lt (a := 0) (b := b) (by omega) (by omega)
      have hLB' : LB X := fun z hz => hLB z (List.mem_cons_of_mem _ hz)
      have skip : ¬ (a = 1 ∧ 0 < b) → XW 111 d' Q 7 [some (.ref 40), some (.int (i32 p)), some (.int (i32 (k + 1)))] [] (toH D1) := by
        intro hn
        have e3 : nl ((a, b) :: X) = nl X := if_neg hn
        rw [e3] at hL2 hQ
        exact ih (k + 1) G D1 hLB' hF hR' (by omega) hN hL hL2 hQ
      rw [x111_7]
      simp only [x111_0, x111_1, x111_4, x111_5, x111_6, x111_8, x111_9, x111_12, x111_13, x111_14, x111_17, x111_18, x111_21, x111_22, x111_23, x111_24, x111_27, x111_28, x111_31, x111_32, x111_33, x111_36, x111_37, x111_38, x111_41, x111_42, x111_43, x111_44, x111_47, x111_50, x111_53, gI_sI, gI_sR, gI_sA, gI_sL, gI_sF, gI_sQ, gI_sG, gI_sN, gR_sI, gR_sR, gR_sA, gR_sL, gR_sF, gR_sQ, gR_sG, gR_sN, gA_sI, gA_sR, gA_sA, gA_sL, gA_sF, gA_sQ, gA_sG, gA_sN, gL_sI, gL_sR, gL_sA, gL_sL, gL_sF, gL_sQ, gL_sG, gL_sN, gF_sI, gF_sR, gF_sA, gF_sL, gF_sF, gF_sQ, gF_sG, gF_sN, gQ_sI, gQ_sR, gQ_sA, gQ_sL, gQ_sF, gQ_sQ, gQ_sG, gQ_sN, gN_sI, gN_sR, gN_sA, gN_sL, gN_sF, gN_sQ, gN_sG, gN_sN, gS_sI, gS_sR, gS_sA, gS_sL, gS_sF, gS_sQ, gS_sG, gS_sN, gO_sI, gO_sR, gO_sA, gO_sL, gO_sF, gO_sQ, gO_sN, isR_ref, isR_null, isR_rf, isR2_ref, isR2_null, isR2_rf, am_k_int, am_k_ref, am_k_null, am_k_rf, am_k_none, am_k_long, am_k_double, rf_some, rf_none, KT_ret, KT_void, XP_ap, true_and, and_true, Nat.reduceAdd, Nat.reduceEqDiff, reduceIte, if_true, if_false, eq_self, true_or, or_true, forall_const, not_true_eq_false, not_false_eq_true, hp2, hp3, h518', hk1, hk2, g1, g2]
      rw [i32_lt (by omega) (by omega), e1, e2, i32_add1]
      refine ⟨fun z => by omega, fun _ => ⟨fun c1 => skip (fun z => c1 z.1), fun c1 => ⟨fun c2 => skip (fun z => c2 z.2), fun c2 => ?_⟩⟩⟩
      have e3 : nl ((a, b) :: X) = b :: nl X := if_pos ⟨c1, c2⟩
      rw [e3] at hL2 hQ
      have hL2 : G.length + ((nl X).length + 1) < 64 := hL2
      refine n_bind hL (by omega) (by omega) ?_
      simp only [x111_0, x111_1, x111_4, x111_5, x111_6, x111_8, x111_9, x111_12, x111_13, x111_14, x111_17, x111_18, x111_21, x111_22, x111_23, x111_24, x111_27, x111_28, x111_31, x111_32, x111_33, x111_36, x111_37, x111_38, x111_41, x111_42, x111_43, x111_44, x111_47, x111_50, x111_53, gI_sI, gI_sR, gI_sA, gI_sL, gI_sF, gI_sQ, gI_sG, gI_sN, gR_sI, gR_sR, gR_sA, gR_sL, gR_sF, gR_sQ, gR_sG, gR_sN, gA_sI, gA_sR, gA_sA, gA_sL, gA_sF, gA_sQ, gA_sG, gA_sN, gL_sI, gL_sR, gL_sA, gL_sL, gL_sF, gL_sQ, gL_sG, gL_sN, gF_sI, gF_sR, gF_sA, gF_sL, gF_sF, gF_sQ, gF_sG, gF_sN, gQ_sI, gQ_sR, gQ_sA, gQ_sL, gQ_sF, gQ_sQ, gQ_sG, gQ_sN, gN_sI, gN_sR, gN_sA, gN_sL, gN_sF, gN_sQ, gN_sG, gN_sN, gS_sI, gS_sR, gS_sA, gS_sL, gS_sF, gS_sQ, gS_sG, gS_sN, gO_sI, gO_sR, gO_sA, gO_sL, gO_sF, gO_sQ, gO_sN, isR_ref, isR_null, isR_rf, isR2_ref, isR2_null, isR2_rf, am_k_int, am_k_ref, am_k_null, am_k_rf, am_k_none, am_k_long, am_k_double, rf_some, rf_none, KT_ret, KT_void, XP_ap, true_and, and_true, Nat.reduceAdd, Nat.reduceEqDiff, reduceIte, if_true, if_false, eq_self, true_or, or_true, forall_const, not_true_eq_false, not_false_eq_true]
      rw [i32_add1]
      refine ih (k + 1) (b :: G) _ hLB' (((hF.na (.inl rfl)).na (.inr (.inl rfl))).na (.inr (.inr rfl))).ar hR' (by omega) ⟨?_, ?_⟩ rfl (by show G.length + 1 + _ < 64; omega) (fun D' h1 h2 h3 => ?_)
      · rw [gA_sI, gA_ne (by omega), gA_ne (by omega), gA_eq]
      · refine hN.congr fun j hj => ?_
        rw [gA_sI, gA_ne (by omega), gA_ne (by omega), gA_ne (by omega)]
      · refine hQ D' h1 ?_ ?_
        · rw [List.reverse_cons, List.append_assoc]; exact h2
        · rw [h3]; congr 1; show G.length + 1 + _ = G.length + (_ + 1); omega
  simp only [x111_0, x111_1, x111_4, x111_5, x111_6, x111_8, x111_9, x111_12, x111_13, x111_14, x111_17, x111_18, x111_21, x111_22, x111_23, x111_24, x111_27, x111_28, x111_31, x111_32, x111_33, x111_36, x111_37, x111_38, x111_41, x111_42, x111_43, x111_44, x111_47, x111_50, x111_53, gI_sI, gI_sR, gI_sA, gI_sL, gI_sF, gI_sQ, gI_sG, gI_sN, gR_sI, gR_sR, gR_sA, gR_sL, gR_sF, gR_sQ, gR_sG, gR_sN, gA_sI, gA_sR, gA_sA, gA_sL, gA_sF, gA_sQ, gA_sG, gA_sN, gL_sI, gL_sR, gL_sA, gL_sL, gL_sF, gL_sQ, gL_sG, gL_sN, gF_sI, gF_sR, gF_sA, gF_sL, gF_sF, gF_sQ, gF_sG, gF_sN, gQ_sI, gQ_sR, gQ_sA, gQ_sL, gQ_sF, gQ_sQ, gQ_sG, gQ_sN, gN_sI, gN_sR, gN_sA, gN_sL, gN_sF, gN_sQ, gN_sG, gN_sN, gS_sI, gS_sR, gS_sA, gS_sL, gS_sF, gS_sQ, gS_sG, gS_sN, gO_sI, gO_sR, gO_sA, gO_sL, gO_sF, gO_sQ, gO_sN, isR_ref, isR_null, isR_rf, isR2_ref, isR2_null, isR2_rf, am_k_int, am_k_ref, am_k_null, am_k_rf, am_k_none, am_k_long, am_k_double, rf_some, rf_none, KT_ret, KT_void, XP_ap, true_and, and_true, Nat.reduceAdd, Nat.reduceEqDiff, reduceIte, if_true, if_false, eq_self, true_or, or_true, forall_const, not_true_eq_false, not_false_eq_true, hp2, hp3, h517]
  exact key (pl e) s0 G D hLB NFR.refl hR rfl hN hL hL2 hQ
def KN (d : Nat) (Q : am_O → am_H → Prop) (p : Nat) (o : am_O) (h : am_H) : Prop := ∃ D', o = .inl none ∧ h = toH D' ∧ HN d Q D' p
/-- a sign that is no name -/
theorem n_go (hM : gI D 519 = i32 M) (hpM : p < M) (hM2 : M ≤ 122) (ha : gA D 516 p = i32 a) (ha2 : a < 100) (ha5 : ¬ a = 5) (h : AC d 109 [.ref 40, .int (i32 p)] (toH D) (KN d Q (p + 1))) : HN d Q D p := by
  intro b
  have hp2 : (i32 p).toNatClampNeg = p := i32_nat (by omega)
  have hp3 : vp_in (i32 p) 124 = True := eq_true ((i32_in (by omega)).mpr (by omega))
  have e5 : (i32 a = 5) = False := eq_false fun z => ha5 ((i32_eq (a := a) (b := 5) (by omega) (by omega)).mp z)
  rw [x108_7]
  simp only [x108_0, x108_1, x108_2, x108_5, x108_6, x108_8, x108_9, x108_12, x108_15, x108_16, x108_19, x108_20, x108_21, x108_22, x108_25, x108_26, x108_29, x108_30, x108_31, x108_33, x108_36, x108_37, x108_40, x108_41, x108_42, x108_43, x108_46, x108_47, x108_48, x108_51, x108_54, x108_57, x108_58, x108_61, x108_62, x108_63, x108_64, x108_67, x108_68, x108_69, x108_72, x108_73, x108_74, x108_75, x108_76, x108_77, x108_78, x108_79, x108_82, x108_85, x108_88, x108_89, gI_sI, gI_sR, gI_sA, gI_sL, gI_sF, gI_sQ, gI_sG, gI_sN, gR_sI, gR_sR, gR_sA, gR_sL, gR_sF, gR_sQ, gR_sG, gR_sN, gA_sI, gA_sR, gA_sA, gA_sL, gA_sF, gA_sQ, gA_sG, gA_sN, gL_sI, gL_sR, gL_sA, gL_sL, gL_sF, gL_sQ, gL_sG, gL_sN, gF_sI, gF_sR, gF_sA, gF_sL, gF_sF, gF_sQ, gF_sG, gF_sN, gQ_sI, gQ_sR, gQ_sA, gQ_sL, gQ_sF, gQ_sQ, gQ_sG, gQ_sN, gN_sI, gN_sR, gN_sA, gN_sL, gN_sF, gN_sQ, gN_sG, gN_sN, gS_sI, gS_sR, gS_sA, gS_sL, gS_sF, gS_sQ, gS_sG, gS_sN, gO_sI, gO_sR, gO_sA, gO_sL, gO_sF, gO_sQ, gO_sN, isR_ref, isR_null, isR_rf, isR2_ref, isR2_null, isR2_rf, am_k_int, am_k_ref, am_k_null, am_k_rf, am_k_none, am_k_long, am_k_double, rf_some, rf_none, KT_ret, KT_void, XP_ap, true_and, and_true, Nat.reduceAdd, Nat.reduceEqDiff, reduceIte, if_true, if_false, eq_self, true_or, or_true, forall_const, not_true_eq_false, not_false_eq_true, hM, hp2, hp3, ha, e5, false_imp_iff]
  rw [i32_lt (by omega) (by omega)]
  refine ⟨fun z => by omega, fun _ => ?_⟩
  refine h.use (Nat.le_refl _) fun o h' ⟨D', z1, z2, z3⟩ => ?_
  rw [z1, z2]
  simp only [x108_0, x108_1, x108_2, x108_5, x108_6, x108_8, x108_9, x108_12, x108_15, x108_16, x108_19, x108_20, x108_21, x108_22, x108_25, x108_26, x108_29, x108_30, x108_31, x108_33, x108_36, x108_37, x108_40, x108_41, x108_42, x108_43, x108_46, x108_47, x108_48, x108_51, x108_54, x108_57, x108_58, x108_61, x108_62, x108_63, x108_64, x108_67, x108_68, x108_69, x108_72, x108_73, x108_74, x108_75, x108_76, x108_77, x108_78, x108_79, x108_82, x108_85, x108_88, x108_89, gI_sI, gI_sR, gI_sA, gI_sL, gI_sF, gI_sQ, gI_sG, gI_sN, gR_sI, gR_sR, gR_sA, gR_sL, gR_sF, gR_sQ, gR_sG, gR_sN, gA_sI, gA_sR, gA_sA, gA_sL, gA_sF, gA_sQ, gA_sG, gA_sN, gL_sI, gL_sR, gL_sA, gL_sL, gL_sF, gL_sQ, gL_sG, gL_sN, gF_sI, gF_sR, gF_sA, gF_sL, gF_sF, gF_sQ, gF_sG, gF_sN, gQ_sI, gQ_sR, gQ_sA, gQ_sL, gQ_sF, gQ_sQ, gQ_sG, gQ_sN, gN_sI, gN_sR, gN_sA, gN_sL, gN_sF, gN_sQ, gN_sG, gN_sN, gS_sI, gS_sR, gS_sA, gS_sL, gS_sF, gS_sQ, gS_sG, gS_sN, gO_sI, gO_sR, gO_sA, gO_sL, gO_sF, gO_sQ, gO_sN, isR_ref, isR_null, isR_rf, isR2_ref, isR2_null, isR2_rf, am_k_int, am_k_ref, am_k_null, am_k_rf, am_k_none, am_k_long, am_k_double, rf_some, rf_none, KT_ret, KT_void, XP_ap, true_and, and_true, Nat.reduceAdd, Nat.reduceEqDiff, reduceIte, if_true, if_false, eq_self, true_or, or_true, forall_const, not_true_eq_false, not_false_eq_true]
  rw [i32_add1]
  exact z3 _
theorem ia {e : Nat} (ha : a < 100) (he : e < 100) : (i32 a = i32 e) ↔ a = e := i32_eq (by omega) (by omega)
theorem n_sc (hp : p < 124) (ha : gA D 516 p = i32 a) (ha2 : a < 100) (hL : gI D 542 = i32 L) (hL2 : L < 64) (hd : 4 ≤ d)
    (h1 : (a = 6 ∨ a = 10 ∨ a = 19) → L < 63 ∧ Q (.inl none) (toH (sI (sA (sA (sA D 539 L (gA D 518 p)) 540 L 0) 541 L 0) 542 (i32 (L + 1)))))
    (h2 : a = 16 → AC (d - 1) 111 [.ref 40, .int (i32 p)] (toH D) (fun o h => ∃ D', o = .inl none ∧ h = toH D' ∧ Q (.inl none) (toH D')))
    (h3 : a = 7 → 1 ≤ L ∧ Q (.inl none) (toH (sI D 542 (i32 (L - 1)))))
    (h4 : a = 12 → ∃ k, gA D 517 p = i32 k ∧ k ≤ L ∧ Q (.inl none) (toH (sI D 542 (i32 (L - k)))))
    (h5 : ¬ (a = 6 ∨ a = 10 ∨ a = 19 ∨ a = 16 ∨ a = 7 ∨ a = 12) → Q (.inl none) (toH D)) : AC d 109 [.ref 40, .int (i32 p)] (toH D) Q := by
  obtain ⟨d', rfl⟩ : ∃ d', d = d' + 1 := ⟨d - 1, by omega⟩
  rw [e109]
  have hp2 : (i32 p).toNatClampNeg = p := i32_nat (by omega)
  have hp3 : vp_in (i32 p) 124 = True := eq_true ((i32_in (by omega)).mpr hp)
  have e6 : (i32 a = 6) ↔ a = 6 := ia (e := 6) ha2 (by omega)
  have e10 : (i32 a = 10) ↔ a = 10 := ia (e := 10) ha2 (by omega)
  have e19 : (i32 a = 19) ↔ a = 19 := ia (e := 19) ha2 (by omega)
  have e16 : (i32 a = 16) ↔ a = 16 := ia (e := 16) ha2 (by omega)
  have e7 : (i32 a = 7) ↔ a = 7 := ia (e := 7) ha2 (by omega)
  have e12 : (i32 a = 12) ↔ a = 12 := ia (e := 12) ha2 (by omega)
  by_cases c1 : a = 6 ∨ a = 10 ∨ a = 19
  · have n16 : (a = 16) = False := eq_false (by omega)
    have n7 : (a = 7) = False := eq_false (by omega)
    have n12 : (a = 12) = False := eq_false (by omega)
    obtain ⟨q1, q2⟩ := h1 c1
    have fin : AC d' 110 [.ref 40, .int (gA D 518 p), .int 0] (toH D) (KT 109 d' Q 33 3 [some (.ref 40), some (.int (i32 p)), some (.int (i32 a))] []) := by
      refine n_bind hL (by omega) (by omega) ?_
      simp only [x109_0, x109_1, x109_4, x109_5, x109_6, x109_7, x109_8, x109_10, x109_13, x109_14, x109_16, x109_19, x109_20, x109_22, x109_25, x109_26, x109_27, x109_30, x109_31, x109_32, x109_33, x109_36, x109_37, x109_39, x109_42, x109_43, x109_44, x109_47, x109_48, x109_49, x109_52, x109_53, x109_55, x109_58, x109_59, x109_62, x109_63, x109_65, x109_68, x109_69, x109_72, x109_73, x109_74, x109_77, x109_78, x109_79, x109_82, gI_sI, gI_sR, gI_sA, gI_sL, gI_sF, gI_sQ, gI_sG, gI_sN, gR_sI, gR_sR, gR_sA, gR_sL, gR_sF, gR_sQ, gR_sG, gR_sN, gA_sI, gA_sR, gA_sA, gA_sL, gA_sF, gA_sQ, gA_sG, gA_sN, gL_sI, gL_sR, gL_sA, gL_sL, gL_sF, gL_sQ, gL_sG, gL_sN, gF_sI, gF_sR, gF_sA, gF_sL, gF_sF, gF_sQ, gF_sG, gF_sN, gQ_sI, gQ_sR, gQ_sA, gQ_sL, gQ_sF, gQ_sQ, gQ_sG, gQ_sN, gN_sI, gN_sR, gN_sA, gN_sL, gN_sF, gN_sQ, gN_sG, gN_sN, gS_sI, gS_sR, gS_sA, gS_sL, gS_sF, gS_sQ, gS_sG, gS_sN, gO_sI, gO_sR, gO_sA, gO_sL, gO_sF, gO_sQ, gO_sN, isR_ref, isR_null, isR_rf, isR2_ref, isR2_null, isR2_rf, am_k_int, am_k_ref, am_k_null, am_k_rf, am_k_none, am_k_long, am_k_double, rf_some, rf_none, KT_ret, KT_void, XP_ap, true_and, and_true, Nat.reduceAdd, Nat.reduceEqDiff, reduceIte, if_true, if_false, eq_self, true_or, or_true, forall_const, not_true_eq_false, not_false_eq_true, e6, e10, e19, e16, e7, e12, n16, n7, n12, false_imp_iff]
      rw [Int32.sub_zero, sI_sI]
      exact q2
    simp only [x109_0, x109_1, x109_4, x109_5, x109_6, x109_7, x109_8, x109_10, x109_13, x109_14, x109_16, x109_19, x109_20, x109_22, x109_25, x109_26, x109_27, x109_30, x109_31, x109_32, x109_33, x109_36, x109_37, x109_39, x109_42, x109_43, x109_44, x109_47, x109_48, x109_49, x109_52, x109_53, x109_55, x109_58, x109_59, x109_62, x109_63, x109_65, x109_68, x109_69, x109_72, x109_73, x109_74, x109_77, x109_78, x109_79, x109_82, gI_sI, gI_sR, gI_sA, gI_sL, gI_sF, gI_sQ, gI_sG, gI_sN, gR_sI, gR_sR, gR_sA, gR_sL, gR_sF, gR_sQ, gR_sG, gR_sN, gA_sI, gA_sR, gA_sA, gA_sL, gA_sF, gA_sQ, gA_sG, gA_sN, gL_sI, gL_sR, gL_sA, gL_sL, gL_sF, gL_sQ, gL_sG, gL_sN, gF_sI, gF_sR, gF_sA, gF_sL, gF_sF, gF_sQ, gF_sG, gF_sN, gQ_sI, gQ_sR, gQ_sA, gQ_sL, gQ_sF, gQ_sQ, gQ_sG, gQ_sN, gN_sI, gN_sR, gN_sA, gN_sL, gN_sF, gN_sQ, gN_sG, gN_sN, gS_sI, gS_sR, gS_sA, gS_sL, gS_sF, gS_sQ, gS_sG, gS_sN, gO_sI, gO_sR, gO_sA, gO_sL, gO_sF, gO_sQ, gO_sN, isR_ref, isR_null, isR_rf, isR2_ref, isR2_null, isR2_rf, am_k_int, am_k_ref, am_k_null, am_k_rf, am_k_none, am_k_long, am_k_double, rf_some, rf_none, KT_ret, KT_void, XP_ap, true_and, and_true, Nat.reduceAdd, Nat.reduceEqDiff, reduceIte, if_true, if_false, eq_self, true_or, or_true, forall_const, not_true_eq_false, not_false_eq_true, hp2, hp3, ha, e6, e10, e19, e16, e7, e12]
    refine ⟨fun _ => fin, fun z1 => ⟨fun _ => fin, fun z2 => ⟨fun z3 => ?_, fun _ => fin⟩⟩⟩
    omega
  · have n6 : (a = 6) = False := eq_false (by omega)
    have n10 : (a = 10) = False := eq_false (by omega)
    have n19 : (a = 19) = False := eq_false (by omega)
    by_cases c16 : a = 16
    · subst c16
      have i1 : ((16 : Nat) = 7) = False := by decide
      have i2 : ((16 : Nat) = 12) = False := by decide
      simp only [x109_0, x109_1, x109_4, x109_5, x109_6, x109_7, x109_8, x109_10, x109_13, x109_14, x109_16, x109_19, x109_20, x109_22, x109_25, x109_26, x109_27, x109_30, x109_31, x109_32, x109_33, x109_36, x109_37, x109_39, x109_42, x109_43, x109_44, x109_47, x109_48, x109_49, x109_52, x109_53, x109_55, x109_58, x109_59, x109_62, x109_63, x109_65, x109_68, x109_69, x109_72, x109_73, x109_74, x109_77, x109_78, x109_79, x109_82, gI_sI, gI_sR, gI_sA, gI_sL, gI_sF, gI_sQ, gI_sG, gI_sN, gR_sI, gR_sR, gR_sA, gR_sL, gR_sF, gR_sQ, gR_sG, gR_sN, gA_sI, gA_sR, gA_sA, gA_sL, gA_sF, gA_sQ, gA_sG, gA_sN, gL_sI, gL_sR, gL_sA, gL_sL, gL_sF, gL_sQ, gL_sG, gL_sN, gF_sI, gF_sR, gF_sA, gF_sL, gF_sF, gF_sQ, gF_sG, gF_sN, gQ_sI, gQ_sR, gQ_sA, gQ_sL, gQ_sF, gQ_sQ, gQ_sG, gQ_sN, gN_sI, gN_sR, gN_sA, gN_sL, gN_sF, gN_sQ, gN_sG, gN_sN, gS_sI, gS_sR, gS_sA, gS_sL, gS_sF, gS_sQ, gS_sG, gS_sN, gO_sI, gO_sR, gO_sA, gO_sL, gO_sF, gO_sQ, gO_sN, isR_ref, isR_null, isR_rf, isR2_ref, isR2_null, isR2_rf, am_k_int, am_k_ref, am_k_null, am_k_rf, am_k_none, am_k_long, am_k_double, rf_some, rf_none, KT_ret, KT_void, XP_ap, true_and, and_true, Nat.reduceAdd, Nat.reduceEqDiff, reduceIte, if_true, if_false, eq_self, true_or, or_true, forall_const, not_true_eq_false, not_false_eq_true, hp2, hp3, ha, e6, e10, e19, e16, e7, e12, n6, n10, n19, false_imp_iff, true_imp_iff]
      refine (h2 rfl).use (Nat.le_refl _) fun o h' ⟨D', z1, z2, z3⟩ => ?_
      rw [z1, z2]
      simp only [x109_0, x109_1, x109_4, x109_5, x109_6, x109_7, x109_8, x109_10, x109_13, x109_14, x109_16, x109_19, x109_20, x109_22, x109_25, x109_26, x109_27, x109_30, x109_31, x109_32, x109_33, x109_36, x109_37, x109_39, x109_42, x109_43, x109_44, x109_47, x109_48, x109_49, x109_52, x109_53, x109_55, x109_58, x109_59, x109_62, x109_63, x109_65, x109_68, x109_69, x109_72, x109_73, x109_74, x109_77, x109_78, x109_79, x109_82, gI_sI, gI_sR, gI_sA, gI_sL, gI_sF, gI_sQ, gI_sG, gI_sN, gR_sI, gR_sR, gR_sA, gR_sL, gR_sF, gR_sQ, gR_sG, gR_sN, gA_sI, gA_sR, gA_sA, gA_sL, gA_sF, gA_sQ, gA_sG, gA_sN, gL_sI, gL_sR, gL_sA, gL_sL, gL_sF, gL_sQ, gL_sG, gL_sN, gF_sI, gF_sR, gF_sA, gF_sL, gF_sF, gF_sQ, gF_sG, gF_sN, gQ_sI, gQ_sR, gQ_sA, gQ_sL, gQ_sF, gQ_sQ, gQ_sG, gQ_sN, gN_sI, gN_sR, gN_sA, gN_sL, gN_sF, gN_sQ, gN_sG, gN_sN, gS_sI, gS_sR, gS_sA, gS_sL, gS_sF, gS_sQ, gS_sG, gS_sN, gO_sI, gO_sR, gO_sA, gO_sL, gO_sF, gO_sQ, gO_sN, isR_ref, isR_null, isR_rf, isR2_ref, isR2_null, isR2_rf, am_k_int, am_k_ref, am_k_null, am_k_rf, am_k_none, am_k_long, am_k_double, rf_some, rf_none, KT_ret, KT_void, XP_ap, true_and, and_true, Nat.reduceAdd, Nat.reduceEqDiff, reduceIte, if_true, if_false, eq_self, true_or, or_true, forall_const, not_true_eq_false, not_false_eq_true, e6, e10, e19, e16, e7, e12, i1, i2, false_imp_iff, true_imp_iff]
      rw [Int32.sub_zero, sI_self]
      exact z3
    · have n16 : (a = 16) = False := eq_false c16
      simp only [x109_0, x109_1, x109_4, x109_5, x109_6, x109_7, x109_8, x109_10, x109_13, x109_14, x109_16, x109_19, x109_20, x109_22, x109_25, x109_26, x109_27, x109_30, x109_31, x109_32, x109_33, x109_36, x109_37, x109_39, x109_42, x109_43, x109_44, x109_47, x109_48, x109_49, x109_52, x109_53, x109_55, x109_58, x109_59, x109_62, x109_63, x109_65, x109_68, x109_69, x109_72, x109_73, x109_74, x109_77, x109_78, x109_79, x109_82, gI_sI, gI_sR, gI_sA, gI_sL, gI_sF, gI_sQ, gI_sG, gI_sN, gR_sI, gR_sR, gR_sA, gR_sL, gR_sF, gR_sQ, gR_sG, gR_sN, gA_sI, gA_sR, gA_sA, gA_sL, gA_sF, gA_sQ, gA_sG, gA_sN, gL_sI, gL_sR, gL_sA, gL_sL, gL_sF, gL_sQ, gL_sG, gL_sN, gF_sI, gF_sR, gF_sA, gF_sL, gF_sF, gF_sQ, gF_sG, gF_sN, gQ_sI, gQ_sR, gQ_sA, gQ_sL, gQ_sF, gQ_sQ, gQ_sG, gQ_sN, gN_sI, gN_sR, gN_sA, gN_sL, gN_sF, gN_sQ, gN_sG, gN_sN, gS_sI, gS_sR, gS_sA, gS_sL, gS_sF, gS_sQ, gS_sG, gS_sN, gO_sI, gO_sR, gO_sA, gO_sL, gO_sF, gO_sQ, gO_sN, isR_ref, isR_null, isR_rf, isR2_ref, isR2_null, isR2_rf, am_k_int, am_k_ref, am_k_null, am_k_rf, am_k_none, am_k_long, am_k_double, rf_some, rf_none, KT_ret, KT_void, XP_ap, true_and, and_true, Nat.reduceAdd, Nat.reduceEqDiff, reduceIte, if_true, if_false, eq_self, true_or, or_true, forall_const, not_true_eq_false, not_false_eq_true, hp2, hp3, ha, e6, e10, e19, e16, e7, e12, n6, n10, n19, n16, hL, false_imp_iff, true_imp_iff]
      refine ⟨fun c7 => ⟨fun c12 => ?_, fun c12 => ?_⟩, fun c7 => ?_⟩
      · rw [Int32.sub_zero, sI_same hL]
        exact h5 (by omega)
      · obtain ⟨k, k1, k2, k3⟩ := h4 c12
        rw [k1, i32_sub k2 (by omega)]
        exact k3
      · obtain ⟨k1, k2⟩ := h3 c7
        rw [i32_sub1 k1 (by omega)]
        exact k2
end ND
