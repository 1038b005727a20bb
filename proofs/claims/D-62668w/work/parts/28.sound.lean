/-! THE SMALL MACHINE, 21: the real machine follows it: a whole body, a method's contract -/
set_option maxRecDepth 100000
theorem am_bq0 {i : Instr} (h : (i == Instr.dup) = true) : i = .dup := by
  cases i <;> first | rfl | cases h
theorem am_bq1 {i : Instr} (h : (i == Instr.athrow) = true) : i = .athrow := by
  cases i <;> first | rfl | cases h
theorem am_bq2 {i : Instr} {n : Nat} (h : (i == Instr.invokespecial n) = true) : i = .invokespecial n := by
  cases i <;> first | (exact congrArg Instr.invokespecial (eq_of_beq h)) | cases h
theorem am_bq {x : Option (Nat × Instr)} {a : Nat} {j : Instr} (hj : ∀ i : Instr, (i == j) = true → i = j) (h : (x == some (a, j)) = true) : x = some (a, j) := by
  cases x with
  | none => cases h
  | some q =>
    obtain ⟨b, i⟩ := q
    have h : ((b == a) && (i == j)) = true := h
    rw [Bool.and_eq_true] at h
    rw [eq_of_beq h.1, hj i h.2]
/-- a return: the instruction, the answer, the method's type -/
def am_ret (i : Instr) (v : Option Value) (rt : Option FieldType) : Prop := match v with
  | none => i = .return_ ∧ rt = none
  | some (.int x) => i = .ireturn ∧ ∃ ty, rt = some ty ∧ narrow ty (.int x) = .int x
  | some (.double _) => i = .dreturn ∧ rt = some .double
  | some v => i = .areturn ∧ am_isR v = true ∧ ∃ ty, rt = some ty ∧ ty.isReference = true
def am_eR (dC : Nat → ClassId) (dI : Nat → Nat → Nat) (dA : Nat → ClassId) (B0 : Nat) (H0 : Heap) (φ : Nat → Nat) (T0 : Nat) (m : Nat) (cc : ByteArray) (p : Program) (l : Launch) (e : Env) (R : Room) (s : State) (mi : MethodId) (args : Array Value) (below : List Frame) (meth : Method) (c : Code) (Z : State → Prop) (Q : am_O → am_H → Prop) : Prop :=
  ∀ (v : Option Value) (h : am_H) (H : Heap) (locs : List Loc) (ls : Array Slot) (pc c0 s0 : Nat) (i : Instr), Q (.inl v) h → am_J dC dI dA B0 H0 φ T0 h H → (∀ q ∈ locs, B0 ≤ q.base) → am_ret i v (am_rr m) → decode cc pc = .ok (i, 1) → W p l e R s mi args below meth c H locs c0 s0 Z (F0 mi pc ls (v.toList.map (am_fv φ)))
def am_eT (dC : Nat → ClassId) (dI : Nat → Nat → Nat) (dA : Nat → ClassId) (B0 : Nat) (H0 : Heap) (φ : Nat → Nat) (T0 : Nat) (m nL : Nat) (cc : ByteArray) (p : Program) (l : Launch) (e : Env) (R : Room) (s : State) (mi : MethodId) (args : Array Value) (below : List Frame) (meth : Method) (c : Code) (Z : State → Prop) (Q : am_O → am_H → Prop) : Prop :=
  ∀ (ci idx pc : Nat) (h : am_H) (H : Heap) (locs : List Loc) (ls : Array Slot) (c0 s0 : Nat), am_exc ci = true → am_ow m = 1 → am_hs m = [] → Cond.classLink "FunDesk" idx (am_cn ci) ∈ lw_all → decode cc pc = .ok (.new idx, 3) → decode cc (pc + 3) = .ok (.dup, 1) → decode cc (pc + 4) = .ok (.invokespecial (am_xi ci), 3) → decode cc (pc + 7) = .ok (.athrow, 1) →
    h.2.1 < am_capC → h.2.2 + 6 ≤ am_capS → Q (.inr (h.2.1, ci)) (am_nw h (.inr (ci, [])) 6) → am_J dC dI dA B0 H0 φ T0 h H → (∀ q ∈ locs, B0 ≤ q.base) → ls.size = nL → W p l e R s mi args below meth c H locs c0 s0 Z (F0 mi pc ls [])
section SN7
variable {dC : Nat → ClassId} {dI : Nat → Nat → Nat} {dA : Nat → ClassId} {ad : Nat → Nat} {B0 : Nat} {H0 : Heap} {φ : Nat → Nat} {T0 : Nat} {m nL : Nat} {cc : ByteArray} {p : Program} {l : Launch} {e : Env} {R : Room} {s : State} {mi : MethodId} {args : Array Value} {below : List Frame} {meth : Method} {c : Code} {Z : State → Prop} {pc k : Nat} {i : Instr} {L : am_V} {S T : List Value} {h : am_H} {H : Heap} {locs : List Loc} {ls : Array Slot} {c0 s0 : Nat} {M : am_M} {Q : am_O → am_H → Prop}
theorem am_ret_ok (X : am_X dC dI dA ad B0 H0 φ T0 m nL cc p l R s mi args meth c) (eR : am_eR dC dI dA B0 H0 φ T0 m cc p l e R s mi args below meth c Z Q) {v : Option Value} (hk : (am_cd m).lookup pc = some (k, i)) (hi : decode cc pc = .ok (am_raw pc k i, am_ln k i) → decode cc pc = .ok (i, 1)) (hr : am_ret i v (am_rr m)) (q : Q (.inl v) h) : am_PP dC dI dA B0 H0 φ T0 nL p l e R s mi args below meth c Z pc L v.toList h := by
  intro H locs ls c0 s0 hJ hlo hl hL
  exact eR v h H locs ls pc c0 s0 i q hJ hlo hr (hi (X.row hk).1)
theorem am_exc_ok (X : am_X dC dI dA ad B0 H0 φ T0 m nL cc p l R s mi args meth c) (eT : am_eT dC dI dA B0 H0 φ T0 m nL cc p l e R s mi args below meth c Z Q) {ci : Nat} (hk : (am_cd m).lookup pc = some (k, .new ci)) (he : am_exc ci = true) (hc : h.2.1 < am_capC) (hs : h.2.2 + am_nf ci ≤ am_capS) (hh : am_hs m = []) (q : Q (.inr (h.2.1, ci)) (am_nw h (.inr (ci, [])) 6)) : am_PP dC dI dA B0 H0 φ T0 nL p l e R s mi args below meth c Z pc L [] h := by
  intro H locs ls c0 s0 hJ hlo hl hL
  obtain ⟨hd, hck⟩ := X.row hk
  simp only [am_ck1, he, Bool.and_eq_true, decide_eq_true_eq, List.contains_iff_mem, Bool.not_true, Bool.false_or, beq_iff_eq] at hck
  obtain ⟨⟨hkl, h28⟩, ⟨⟨ho, h3⟩, h4⟩, h7⟩ := hck
  have h3 := am_bq (fun _ => am_bq0) h3
  have h4 := am_bq (fun _ => am_bq2) h4
  have h7 := am_bq (fun _ => am_bq1) h7
  have d3 := (X.row h3).1
  have d4 := (X.row h4).1
  have d7 := (X.row h7).1
  have hl2 := am_kl_ok _ hkl
  simp only [am_kn_cn h28, ho] at hl2
  have hnf : am_nf ci = 6 := by
    simp only [am_exc, Bool.and_eq_true, decide_eq_true_eq] at he
    have : ci = 23 ∨ ci = 24 ∨ ci = 25 ∨ ci = 26 ∨ ci = 27 := by omega
    rcases this with rfl | rfl | rfl | rfl | rfl <;> rfl
  rw [hnf] at hs
  exact eT ci k pc h H locs ls c0 s0 he ho hh hl2 hd d3 d4 d7 hc hs q hJ hlo hl.1
set_option maxHeartbeats 4000000 in
theorem am_in_ok (X : am_X dC dI dA ad B0 H0 φ T0 m nL cc p l R s mi args meth c) (hM : am_eM dC dI dA ad B0 H0 φ T0 l R M) (eL : am_eL dC dI dA B0 H0 φ T0 p l e R s mi args below meth c Z Q) (eR : am_eR dC dI dA B0 H0 φ T0 m cc p l e R s mi args below meth c Z Q) (eT : am_eT dC dI dA B0 H0 φ T0 m nL cc p l e R s mi args below meth c Z Q)
    (hk : (am_cd m).lookup pc = some (k, i)) (q : aw_in m M Q pc k i L S h (am_PP dC dI dA B0 H0 φ T0 nL p l e R s mi args below meth c Z)) : am_PP dC dI dA B0 H0 φ T0 nL p l e R s mi args below meth c Z pc L S h := by
  unfold aw_in at q
  split at q
  · split at q
    · rename_i hv; exact am_lcl_ok X hk hv (Or.inl ⟨Or.inl ⟨_, rfl, rfl⟩, rfl⟩) q
    · exact q.elim
  · split at q
    · rename_i hv; exact am_lcl_ok X hk hv (Or.inl ⟨Or.inr rfl, rfl⟩) q
    · exact q.elim
  · split at q
    · rename_i hv; exact am_lcl_ok X hk hv (Or.inr (Or.inl ⟨Or.inl ⟨_, rfl, rfl⟩, rfl⟩)) q
    · exact q.elim
  · split at q
    · rename_i hv; exact am_lcl_ok X hk hv (Or.inr (Or.inl ⟨Or.inr rfl, rfl⟩)) q
    · exact q.elim
  · split at q
    · rename_i hv; exact am_lcl_ok X hk hv (Or.inr (Or.inr (Or.inl ⟨Or.inl ⟨_, rfl, rfl⟩, rfl⟩))) q
    · exact q.elim
  · split at q
    · rename_i hv; exact am_lcl_ok X hk hv (Or.inr (Or.inr (Or.inl ⟨Or.inr rfl, rfl⟩))) q
    · exact q.elim
  · split at q
    · rename_i hv; exact am_lcl_ok X hk hv (Or.inr (Or.inr (Or.inr ⟨Or.inl ⟨_, rfl, rfl⟩, q.1⟩))) q.2
    · exact q.elim
  · split at q
    · rename_i hv; exact am_lcl_ok X hk hv (Or.inr (Or.inr (Or.inr ⟨Or.inr rfl, q.1⟩))) q.2
    · exact q.elim
  · split at q
    · exact am_sto_ok X hk q.1 (Or.inl ⟨Or.inl ⟨_, rfl, rfl⟩, rfl⟩) q.2
    · exact q.elim
  · split at q
    · exact am_sto_ok X hk q.1 (Or.inl ⟨Or.inr rfl, rfl⟩) q.2
    · exact q.elim
  · split at q
    · exact am_st2_ok X hk q.1 (Or.inl ⟨Or.inl ⟨_, rfl, rfl⟩, rfl⟩) q.2
    · exact q.elim
  · split at q
    · exact am_st2_ok X hk q.1 (Or.inl ⟨Or.inr rfl, rfl⟩) q.2
    · exact q.elim
  · split at q
    · exact am_st2_ok X hk q.1 (Or.inr ⟨Or.inl ⟨_, rfl, rfl⟩, rfl⟩) q.2
    · exact q.elim
  · split at q
    · exact am_st2_ok X hk q.1 (Or.inr ⟨Or.inr rfl, rfl⟩) q.2
    · exact q.elim
  · split at q
    · exact am_sto_ok X hk q.2.1 (Or.inr ⟨Or.inl ⟨_, rfl, rfl⟩, q.1⟩) q.2.2
    · exact q.elim
  · split at q
    · exact am_sto_ok X hk q.2.1 (Or.inr ⟨Or.inr rfl, q.1⟩) q.2.2
    · exact q.elim
  · split at q
    · rename_i hv; exact am_iinc_ok X hk q.1 hv q.2
    · exact q.elim
  · split at q
    · obtain ⟨fs, v, h1, h2, h3, h4⟩ := q; exact am_getf_ok X hk h1 h2 h3 h4
    · exact q.elim
  · split at q
    · obtain ⟨fs, h1, h2, h3, h4, h5⟩ := q; exact am_putf_ok X hk h1 h2 h3 h4 h5
    · exact q.elim
  · exact am_gets_ok X hk q
  · unfold am_rI at q
    split at q
    · obtain ⟨n, f, h1, h3, h4⟩ := q; exact am_ld_ok X hk h1 h3 (Or.inl ⟨rfl, rfl⟩) h4
    · obtain ⟨n, f, h1, h3, h4⟩ := q; exact am_lds_ok X hk h1 h3 h4
    · exact q.elim
  · unfold am_rA at q
    split at q
    · obtain ⟨n, f, h1, h3, h4⟩ := q; exact am_ld_ok X hk h1 h3 (Or.inr (Or.inl ⟨rfl, rfl⟩)) h4
    · exact q.elim
  · unfold am_rA at q
    split at q
    · obtain ⟨n, f, h1, h3, h4⟩ := q; exact am_ld_ok X hk h1 h3 (Or.inr (Or.inr (Or.inl ⟨rfl, rfl⟩))) h4
    · exact q.elim
  · unfold am_rA at q
    split at q
    · obtain ⟨n, f, h1, h3, h4⟩ := q; exact am_ld_ok X hk h1 h3 (Or.inr (Or.inr (Or.inr (Or.inl ⟨rfl, rfl⟩)))) h4
    · exact q.elim
  · unfold am_rA at q
    split at q
    · obtain ⟨n, f, h1, h3, h4⟩ := q; exact am_ld_ok X hk h1 h3 (Or.inr (Or.inr (Or.inr (Or.inr (Or.inl ⟨rfl, rfl⟩))))) h4
    · exact q.elim
  · unfold am_rR at q
    split at q
    · obtain ⟨κ, n, f, h1, h2, h3, h4⟩ := q; exact am_ld_ok X hk h1 h3 (Or.inr (Or.inr (Or.inr (Or.inr (Or.inr ⟨rfl, h2⟩))))) h4
    · exact q.elim
  · unfold am_wA at q
    split at q
    · obtain ⟨n, f, h1, h2, h3, h4⟩ := q; exact am_st_ok X hk h1 h3 (Or.inl ⟨rfl, rfl, h2⟩) h4
    · exact q.elim
  · unfold am_wA at q
    split at q
    · obtain ⟨n, f, h1, h2, h3, h4⟩ := q; exact am_st_ok X hk h1 h3 (Or.inr (Or.inl ⟨rfl, rfl, h2⟩)) h4
    · exact q.elim
  · unfold am_wA at q
    split at q
    · obtain ⟨n, f, h1, h2, h3, h4⟩ := q; exact am_st_ok X hk h1 h3 (Or.inr (Or.inr (Or.inl ⟨rfl, rfl, h2⟩))) h4
    · exact q.elim
  · unfold am_wA at q
    split at q
    · obtain ⟨n, f, h1, h2, h3, h4⟩ := q; exact am_st_ok X hk h1 h3 (Or.inr (Or.inr (Or.inr (Or.inl ⟨rfl, rfl, h2⟩)))) h4
    · exact q.elim
  · unfold am_wA at q
    split at q
    · obtain ⟨n, f, h1, h2, h3, h4⟩ := q; exact am_st_ok X hk h1 h3 (Or.inr (Or.inr (Or.inr (Or.inr (Or.inl ⟨rfl, rfl, h2⟩))))) h4
    · exact q.elim
  · unfold am_wR at q
    split at q
    · obtain ⟨κ, n, f, h1, h2, h5, h3, h4⟩ := q; exact am_st_ok X hk h1 h3 (Or.inr (Or.inr (Or.inr (Or.inr (Or.inr ⟨rfl, h2, h5⟩))))) h4
    · exact q.elim
  · split at q
    · obtain ⟨κ, n, f, h1, h2, h3⟩ := q; exact am_len_ok X hk h1 h2 h3
    · obtain ⟨n, f, h1, h3⟩ := q; exact am_lens_ok X hk h1 h3
    · exact q.elim
  · split at q
    · obtain ⟨h1, h2, h3, h4, h5, h6⟩ := q; exact am_newa_ok X hk h1 h2 h3 h4 h5 h6
    · exact q.elim
  · split at q
    · obtain ⟨h1, h2, h3, h4, h5, h6⟩ := q; exact am_anew_ok X hk h1 h2 h3 h4 h5 h6
    · exact q.elim
  · split at q
    · rename_i he
      obtain ⟨h1, h2, rfl, h4, h5⟩ := q
      exact am_exc_ok X eT hk he h1 h2 h4 h5
    · obtain ⟨h1, h2, h3⟩ := q; exact am_new_ok X hk h1 h2 h3
  · split at q
    · obtain ⟨⟨fs, h1⟩, h2⟩ := q; exact am_cast_ok X hk h1 h2
    · exact q.elim
  · split at q
    · obtain ⟨ci, fs, h1, h2, h3, h4⟩ := q; exact am_inst_ok X hk h1 h2 h3 h4
    · exact q.elim
  · split at q
    · rename_i hv; exact am_ldc_ok X hk hv q
    · exact q.elim
  · split at q
    · rename_i hv; exact am_ldl_ok X hk hv q
    · rename_i hv; exact am_ldd_ok X hk hv q
    · exact q.elim
  · split at q
    · rename_i hv; exact am_ret_ok (v := some (.int _)) X eR hk (fun z => z) ⟨rfl, _, hv, q.1⟩ q.2
    · exact q.elim
  · split at q
    · rename_i hv; exact am_ret_ok (v := some _) X eR hk (fun z => z) ⟨rfl, hv⟩ q
    · exact q.elim
  · split at q
    · rename_i v ty hv
      refine am_ret_ok (v := some v) X eR hk (fun z => z) ?_ q.2.2
      obtain ⟨h1, h2, h3⟩ := q
      cases v <;> simp [am_isR] at h1
      · exact ⟨rfl, rfl, ty, hv, h2⟩
      · exact ⟨rfl, rfl, ty, hv, h2⟩
    · exact q.elim
  · obtain ⟨h1, rfl, h3⟩ := q
    exact am_ret_ok (v := none) X eR hk (fun z => z) ⟨rfl, h1⟩ h3
  · split at q
    · rename_i he
      subst he
      split at q
      · exact am_ord_ok X hk q.1 q.2.1 q.2.2
      · exact q.elim
    · rename_i he
      exact am_cv_ok X hM eL hk he q
  · split at q
    · rename_i he
      subst he
      split at q
      · exact am_min_ok X hk q.1 q.2
      · exact q.elim
    · rename_i he
      exact am_cs_ok X hM eL hk he q
  · split at q
    · rename_i he
      subst he
      split at q
      · exact am_obj_ok X hk q.1 q.2
      · exact q.elim
    · rename_i he
      split at q
      · exact q.elim
      · rename_i he2
        exact am_ci_ok X hM eL hk he he2 q
  · exact am_cf_ok X hM eL hk q
  · exact q.elim
/-- a walk of the small machine is a walk of the real one -/
theorem am_walk (X : am_X dC dI dA ad B0 H0 φ T0 m nL cc p l R s mi args meth c) (hM : am_eM dC dI dA ad B0 H0 φ T0 l R M) (eL : am_eL dC dI dA B0 H0 φ T0 p l e R s mi args below meth c Z Q) (eR : am_eR dC dI dA B0 H0 φ T0 m cc p l e R s mi args below meth c Z Q) (eT : am_eT dC dI dA B0 H0 φ T0 m nL cc p l e R s mi args below meth c Z Q)
    (q : AW m M Q pc L S h) : am_PP dC dI dA B0 H0 φ T0 nL p l e R s mi args below meth c Z pc L S h := by
  refine q _ (fun pc L S h q => ?_)
  unfold aw_st at q
  split at q
  · rename_i w hw
    obtain ⟨k, i⟩ := w
    rcases q with q | q
    · exact am_in_ok X hM eL eR eT hw q
    · exact am_oth_ok X hw q
  · exact q.elim
end SN7
