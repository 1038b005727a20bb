/-! THE SMALL MACHINE, 20: the real machine follows it: the ways of calling, the whole step -/
set_option maxRecDepth 100000
theorem am_split {n b : Nat} {S T : List Value} {φ : Nat → Nat} (h : S.drop n = .ref b :: T) : S.map (am_fv φ) = (((S.take n).reverse).map (am_fv φ)).reverse ++ .ref (φ (b + 1)) :: T.map (am_fv φ) := by
  rw [← List.map_reverse, List.reverse_reverse]
  have h1 : S = S.take n ++ .ref b :: T := by rw [← h, List.take_append_drop]
  conv => lhs; rw [h1]
  simp [am_fv]
theorem am_splitS {n : Nat} {S : List Value} {φ : Nat → Nat} : S.map (am_fv φ) = (((S.take n).reverse).map (am_fv φ)).reverse ++ (S.drop n).map (am_fv φ) := by
  rw [← List.map_reverse, List.reverse_reverse, ← List.map_append, List.take_append_drop]
theorem am_alen {n : Nat} {S : List Value} {φ : Nat → Nat} (h : n ≤ S.length) : (((S.take n).reverse).map (am_fv φ)).length = n := by simp; omega
section SN6
variable {dC : Nat → ClassId} {dI : Nat → Nat → Nat} {dA : Nat → ClassId} {ad : Nat → Nat} {B0 : Nat} {H0 : Heap} {φ : Nat → Nat} {T0 : Nat} {m nL : Nat} {cc : ByteArray} {p : Program} {l : Launch} {e : Env} {R : Room} {s : State} {mi : MethodId} {args : Array Value} {below : List Frame} {meth : Method} {c : Code} {Z : State → Prop} {pc k : Nat} {i : Instr} {L : am_V} {S T : List Value} {h : am_H} {H : Heap} {locs : List Loc} {ls : Array Slot} {c0 s0 : Nat} {M : am_M} {Q : am_O → am_H → Prop}
theorem am_cv_ok (X : am_X dC dI dA ad B0 H0 φ T0 m nL cc p l R s mi args meth c) (hM : am_eM dC dI dA ad B0 H0 φ T0 l R M) (hQ : am_eL dC dI dA B0 H0 φ T0 p l e R s mi args below meth c Z Q) {m' : Nat} (hk : (am_cd m).lookup pc = some (k, .invokevirtual m')) (h9 : m' ≠ 9998)
    (q : am_cv M m' (am_np m') (am_ow m') S h (fun T => am_kt (am_hs m) Q pc 3 L T (am_PP dC dI dA B0 H0 φ T0 nL p l e R s mi args below meth c Z))) : am_PP dC dI dA B0 H0 φ T0 nL p l e R s mi args below meth c Z pc L S h := by
  intro H locs ls c0 s0 hJ hlo hl hL
  obtain ⟨hd, hck⟩ := X.row hk
  have X' := X
  obtain ⟨⟨hx, hb, hts, hown, -⟩, ⟨hK, -, -, F⟩, -⟩ := X
  simp only [am_ck1, if_neg h9, Bool.and_eq_true, Bool.or_eq_true, decide_eq_true_eq, List.contains_iff_mem, beq_iff_eq] at hck
  obtain ⟨⟨⟨hm, hvs⟩, hkd⟩, hln⟩ := hck
  obtain ⟨o1, o2⟩ := am_vs_ow m' hvs
  have hmok := am_mokAll m' hm
  unfold am_cv at q
  split at q
  · rename_i b T hS
    obtain ⟨hn, hT, ⟨fs, hfs⟩, q⟩ := q
    obtain ⟨r, hr, -⟩ := am_cl_some o2
    have hrc := am_cellOf hK.1 hJ.1 hr (hJ.at F rfl hfs)
    have hcls : (am_y m').cls = r.1 := by rw [hmok.2.2.1, am_on_cn o1 o2, am_cn_of hr]
    rw [← hcls] at hrc
    have hinst := hts _ (hmok.2.2.2.2.2.2.2.1 (by rw [hkd]; decide))
    have hsel := hts _ (am_vs_ok m' hvs)
    have hlen : ∀ sig, parseMethodDescriptor (am_y m').desc = some sig → (((S.take (am_np m')).reverse).map (am_fv φ)).length = sig.parameters.length := fun sig hs => am_hlen hm (am_alen (by omega)) sig hs
    refine am_call_ok X' hM hQ (a := .ref b :: (S.take (am_np m')).reverse) hd hT ?_ q hJ hlo hl hL
    rcases hln with hln | hln
    · exact am_invV hx hown (hts _ (am_ml_ok _ hln)) hinst hsel (hts _ hmok.1) hmok.2.2.2.2.1 hrc rfl hlen (am_split hS) (by rw [hb]; exact hd)
    · exact am_invVN hx hown (am_okw_use rfl (hK.2.2.1 _ (am_mn_ok _ hln) rfl)) hinst hsel (hts _ hmok.1) hmok.2.2.2.2.1 hrc rfl hlen (am_split hS) (by rw [hb]; exact hd)
  · exact q.elim
theorem am_cs_ok (X : am_X dC dI dA ad B0 H0 φ T0 m nL cc p l R s mi args meth c) (hM : am_eM dC dI dA ad B0 H0 φ T0 l R M) (hQ : am_eL dC dI dA B0 H0 φ T0 p l e R s mi args below meth c Z Q) {m' : Nat} (hk : (am_cd m).lookup pc = some (k, .invokestatic m')) (h9 : m' ≠ 9996)
    (q : am_cs M m' (am_np m') S h (fun T => am_kt (am_hs m) Q pc 3 L T (am_PP dC dI dA B0 H0 φ T0 nL p l e R s mi args below meth c Z))) : am_PP dC dI dA B0 H0 φ T0 nL p l e R s mi args below meth c Z pc L S h := by
  intro H locs ls c0 s0 hJ hlo hl hL
  obtain ⟨hd, hck⟩ := X.row hk
  have X' := X
  obtain ⟨⟨hx, hb, hts, hown, -⟩, ⟨hK, -, -, F⟩, -⟩ := X
  simp only [am_ck1, if_neg h9, Bool.and_eq_true, Bool.or_eq_true, decide_eq_true_eq, List.contains_iff_mem, beq_iff_eq] at hck
  obtain ⟨⟨hm, hkd⟩, hln⟩ := hck
  have hmok := am_mokAll m' hm
  obtain ⟨hn, hT, q⟩ := q
  have hstat := hts _ (hmok.2.2.2.2.2.2.1 hkd)
  have hlen : ∀ sig, parseMethodDescriptor (am_y m').desc = some sig → (((S.take (am_np m')).reverse).map (am_fv φ)).length = sig.parameters.length := fun sig hs => am_hlen hm (am_alen hn) sig hs
  refine am_call_ok X' hM hQ (a := (S.take (am_np m')).reverse) hd hT ?_ q hJ hlo hl hL
  rcases hln with hln | hln
  · exact am_invS hx hown (hts _ (am_ml_ok _ hln)) hstat (hts _ hmok.2.1) (hts _ hmok.1) hmok.2.2.2.2.1 rfl hlen am_splitS (by rw [hb]; exact hd)
  · exact am_invSN hx hown (am_okw_use rfl (hK.2.2.1 _ (am_mn_ok _ hln) rfl)) hstat (hts _ hmok.2.1) (hts _ hmok.1) hmok.2.2.2.2.1 rfl hlen am_splitS (by rw [hb]; exact hd)
theorem am_ci_ok (X : am_X dC dI dA ad B0 H0 φ T0 m nL cc p l R s mi args meth c) (hM : am_eM dC dI dA ad B0 H0 φ T0 l R M) (hQ : am_eL dC dI dA B0 H0 φ T0 p l e R s mi args below meth c Z Q) {m' : Nat} (hk : (am_cd m).lookup pc = some (k, .invokespecial m')) (h9 : m' ≠ 9999) (h7 : m' ≠ 9997)
    (q : am_ci M m' (am_np m') S h (fun T => am_kt (am_hs m) Q pc 3 L T (am_PP dC dI dA B0 H0 φ T0 nL p l e R s mi args below meth c Z))) : am_PP dC dI dA B0 H0 φ T0 nL p l e R s mi args below meth c Z pc L S h := by
  intro H locs ls c0 s0 hJ hlo hl hL
  obtain ⟨hd, hck⟩ := X.row hk
  have X' := X
  obtain ⟨⟨hx, hb, hts, hown, -⟩, ⟨hK, -, -, F⟩, -⟩ := X
  simp only [am_ck1, if_neg h9, if_neg h7, Bool.and_eq_true, Bool.or_eq_true, decide_eq_true_eq, List.contains_iff_mem, beq_iff_eq] at hck
  obtain ⟨⟨hm, hkd⟩, hln⟩ := hck
  have hmok := am_mokAll m' hm
  unfold am_ci at q
  split at q
  · rename_i b T hS
    obtain ⟨hn, hT, q⟩ := q
    have hinst := hts _ (hmok.2.2.2.2.2.2.2.1 (by rw [hkd]; decide))
    obtain ⟨y1, y2, y3⟩ := hmok.2.2.2.2.2.2.2.2.1 hkd
    have hcode : (Cond.code (am_y m') (am_by m') (am_mL m') none).before args s = true := by
      have h1 := hts _ hmok.1
      unfold am_cdw at h1
      rw [if_pos y2, y3] at h1
      exact h1
    have hlen : ∀ sig, parseMethodDescriptor (am_y m').desc = some sig → (((S.take (am_np m')).reverse).map (am_fv φ)).length = sig.parameters.length := fun sig hs => am_hlen hm (am_alen (by omega)) sig hs
    refine am_call_ok X' hM hQ (a := .ref b :: (S.take (am_np m')).reverse) hd hT ?_ q hJ hlo hl hL
    rcases hln with hln | hln
    · exact am_invI hx hown y1 (hts _ (am_ml_ok _ hln)) hinst hcode hmok.2.2.2.2.1 rfl hlen (am_split hS) (by rw [hb]; exact hd)
    · exact am_invIN hx hown y1 (am_okw_use rfl (hK.2.2.1 _ (am_mn_ok _ hln) rfl)) hinst hcode hmok.2.2.2.2.1 rfl hlen (am_split hS) (by rw [hb]; exact hd)
  · exact q.elim
theorem am_cf_ok (X : am_X dC dI dA ad B0 H0 φ T0 m nL cc p l R s mi args meth c) (hM : am_eM dC dI dA ad B0 H0 φ T0 l R M) (hQ : am_eL dC dI dA B0 H0 φ T0 p l e R s mi args below meth c Z Q) {j cnt : Nat} (hk : (am_cd m).lookup pc = some (k, .invokeinterface j cnt))
    (q : am_cf M j (am_ni j) S h (fun T => am_kt (am_hs m) Q pc 5 L T (am_PP dC dI dA B0 H0 φ T0 nL p l e R s mi args below meth c Z))) : am_PP dC dI dA B0 H0 φ T0 nL p l e R s mi args below meth c Z pc L S h := by
  intro H locs ls c0 s0 hJ hlo hl hL
  obtain ⟨hd, hck⟩ := X.row hk
  have X' := X
  obtain ⟨⟨hx, hb, hts, hown, -⟩, ⟨hK, -, -, F⟩, -⟩ := X
  simp only [am_ck1, Bool.and_eq_true, decide_eq_true_eq, List.contains_iff_mem] at hck
  obtain ⟨hln, hj⟩ := hck
  unfold am_cf at q
  split at q
  · rename_i b T hS
    obtain ⟨hn, hT, ci, fs, hfs, himp, q⟩ := q
    obtain ⟨d1, d2, d3, d4⟩ := am_dpAll j ci himp
    have hmok := am_mokAll _ d1
    have h28 : ci < 28 := by
      simp only [am_imp, am_into] at himp
      split at himp <;> simp at himp <;> omega
    obtain ⟨r, hr, -⟩ := am_cl_some h28
    have hrc := am_cellOf hK.1 hJ.1 hr (hJ.at F rfl hfs)
    rw [← am_cn_of hr] at hrc
    have hF := hK.2.2.2.1 j ci himp
    rw [← d2] at hF
    have hat := (hK.1 _ _ hr).2
    rw [← am_cn_of hr] at hat
    have hlen : ∀ sig, parseMethodDescriptor (am_im j).desc = some sig → (((S.take (am_ni j)).reverse).map (am_fv φ)).length = sig.parameters.length := by
      intro sig hs
      rw [am_alen (by omega)]
      have h1 := am_imlen ⟨j, hj⟩
      rw [hs] at h1
      exact (Option.some.inj h1).symm
    refine am_call_ok X' hM hQ (a := .ref b :: (S.take (am_ni j)).reverse) hd hT ?_ q hJ hlo hl hL
    exact am_invF hx hown (hts _ (am_il_ok _ hln)) hF (hts _ d3) (hts _ (hmok.2.2.2.2.2.2.2.1 (by rw [d4]; decide))) (am_im_ok j) hat hrc rfl hlen (am_split hS) (by rw [hb]; exact hd)
  · exact q.elim
theorem am_min_ok (X : am_X dC dI dA ad B0 H0 φ T0 m nL cc p l R s mi args meth c) {x y : Int32} (hk : (am_cd m).lookup pc = some (k, .invokestatic 9996)) (hT : am_wt T)
    (hk2 : am_PP dC dI dA B0 H0 φ T0 nL p l e R s mi args below meth c Z (pc + 3) L (.int (if y < x then y else x) :: T) h) : am_PP dC dI dA B0 H0 φ T0 nL p l e R s mi args below meth c Z pc L (.int y :: .int x :: T) h := by
  intro H locs ls c0 s0 hJ hlo hl hL
  obtain ⟨hd, hck⟩ := X.row hk
  obtain ⟨⟨hx, hb, hts, hown, -, -, hml, -⟩, ⟨hK, -, -, F⟩, -, hR1, hR2, hR3, hR4⟩ := X
  simp [am_ck1] at hck
  obtain ⟨ho, rfl⟩ := hck
  rw [ho] at hown
  have hcap := hJ.2.2.2
  have hsz := hJ.size F
  have htt := hJ.2.2.1
  simp only [am_capC, am_capS] at hcap
  have hcs := am_wt_fv (φ := φ) hT
  refine am_Wex fun z1 z2 => ?_
  exact va_mmin hx hb (hml.trans hl.1.symm) hown (hts _ q1106) (hts _ q1107) (hts _ q133) (hts _ q1108) (by omega) (by omega) (by omega) (by omega) hd (hk2 H locs ls _ _ hJ hlo hl hL)
theorem am_obj_ok (X : am_X dC dI dA ad B0 H0 φ T0 m nL cc p l R s mi args meth c) {a : Nat} (hk : (am_cd m).lookup pc = some (k, .invokespecial 9999)) (hT : am_wt T)
    (hk2 : am_PP dC dI dA B0 H0 φ T0 nL p l e R s mi args below meth c Z (pc + 3) L T h) : am_PP dC dI dA B0 H0 φ T0 nL p l e R s mi args below meth c Z pc L (.ref a :: T) h := by
  intro H locs ls c0 s0 hJ hlo hl hL
  obtain ⟨hd, hck⟩ := X.row hk
  obtain ⟨⟨hx, hb, hts, hown, -, -, hml, -⟩, ⟨hK, -, -, F⟩, -, hR1, hR2, hR3, hR4⟩ := X
  simp only [am_ck1, if_true, List.contains_iff_mem] at hck
  have hcs := am_wt_fv (φ := φ) hT
  exact W.objInit hx hb hown (hts _ (am_ol_ok _ hck)) (hts _ q148) (hts _ q149) rfl (hl.1.trans hml.symm) rfl hd (by omega) (by show 2 * 0 + _ + 12 ≤ _; omega) (hk2 H locs ls c0 s0 hJ hlo hl hL)
end SN6
