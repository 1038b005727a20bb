/-! THE SMALL MACHINE, 16: the real machine follows it: locals, fields, arrays, what is made -/
set_option maxRecDepth 100000
theorem q184 : (Jvm.Cond.arrayOver (Jvm.ClassFile.FieldType.object "FunDesk$Type")) ∈ lw_tbl := lw_at lw_m1 78 rfl
theorem q186 : (Jvm.Cond.arrayOver (Jvm.ClassFile.FieldType.object "FunDesk$Op")) ∈ lw_tbl := lw_at lw_m1 80 rfl
theorem q188 : (Jvm.Cond.arrayOver (Jvm.ClassFile.FieldType.object "FunDesk$Pattern")) ∈ lw_tbl := lw_at lw_m1 82 rfl
theorem q199 : (Jvm.Cond.arrayClass Jvm.ClassFile.FieldType.char) ∈ lw_all := lw_g (lw_at lw_m1 93 rfl) rfl
theorem q200 : (Jvm.Cond.arrayClass Jvm.ClassFile.FieldType.int) ∈ lw_all := lw_g (lw_at lw_m1 94 rfl) rfl
theorem q202 : (Jvm.Cond.arrayOver (Jvm.ClassFile.FieldType.object "FunDesk$Value")) ∈ lw_tbl := lw_at lw_m1 96 rfl
theorem q204 : (Jvm.Cond.arrayOver (Jvm.ClassFile.FieldType.object "FunDesk$Env")) ∈ lw_tbl := lw_at lw_m1 98 rfl
theorem q821 : (Jvm.Cond.arrayOver (Jvm.ClassFile.FieldType.object "FunDesk$Expr")) ∈ lw_tbl := lw_at lw_m3 235 rfl
theorem q1625 : (Jvm.Cond.arrayClass Jvm.ClassFile.FieldType.boolean) ∈ lw_all := lw_g (lw_at lw_m7 79 rfl) rfl
theorem q1626 : (Jvm.Cond.arrayClass Jvm.ClassFile.FieldType.long) ∈ lw_all := lw_g (lw_at lw_m7 80 rfl) rfl
theorem q1627 : (Jvm.Cond.arrayClass Jvm.ClassFile.FieldType.double) ∈ lw_all := lw_g (lw_at lw_m7 81 rfl) rfl
theorem am_cl_some {ci : Nat} (h : ci < 28) : ∃ r, am_cl[ci]? = some r ∧ r.2.2 = am_nf ci := by
  have h2 : ci < am_cl.length := h
  exact ⟨am_cl[ci], List.getElem?_eq_getElem h2, by unfold am_nf; rw [List.getElem?_eq_getElem h2]; rfl⟩
section SN2
variable {dC : Nat → ClassId} {dI : Nat → Nat → Nat} {dA : Nat → ClassId} {ad : Nat → Nat} {B0 : Nat} {H0 : Heap} {φ : Nat → Nat} {T0 : Nat} {m nL : Nat} {cc : ByteArray} {p : Program} {l : Launch} {e : Env} {R : Room} {s : State} {mi : MethodId} {args : Array Value} {below : List Frame} {meth : Method} {c : Code} {Z : State → Prop} {pc k : Nat} {i : Instr} {L : am_V} {S T : List Value} {h : am_H} {H : Heap} {locs : List Loc} {ls : Array Slot} {c0 s0 : Nat}
theorem am_Wex {Q : State → Prop} {g : JFrame} (k : s.heap.size ≤ H.size → am_tot s.heap ≤ am_tot H → W p l e R s mi args below meth c H locs (H.size - s.heap.size) (am_tot H - am_tot s.heap) Q g) : W p l e R s mi args below meth c H locs c0 s0 Q g := by
  intro U hU X
  obtain ⟨e1, e2⟩ := am_totS X
  have q2 : s.heap.size ≤ U.heap.size := X.same.2.1
  have q4 : U.slotsUsed = s.slotsUsed + _ := X.same.2.2.2.1
  rw [e1, e2] at q4
  rw [hU] at q2 q4
  have q5 : am_tot s.heap ≤ am_tot H := by omega
  exact am_Wany (by omega) (by omega) (k q2 q5) U hU X
def am_k20 (x : am_C) : Bool := match x with
  | .inl q => q.1 == 20
  | .inr _ => false
theorem am_J.ne (hJ : am_J dC dI dA B0 H0 φ T0 h H) {a : Nat} {x : am_C} (hx : am_k20 x = false) (ha : h.1 a = some x) : a ≠ 24 := by
  rintro rfl
  obtain ⟨-, -, -, -, -, n, f, h1, -⟩ := hJ
  rw [h1] at ha
  cases ha
  simp [am_k20] at hx
theorem am_J.at (hJ : am_J dC dI dA B0 H0 φ T0 h H) (F : am_F ad B0 φ) {a : Nat} {x : am_C} (hx : am_k20 x = false) (ha : h.1 a = some x) : (am_rh φ h).1 (φ (a + 1)) = some (am_fc φ x) := by
  rw [am_rh_at F.1]
  unfold am_dr
  rw [if_neg (hJ.ne hx ha), ha]
  rfl
theorem am_J.up (hJ : am_J dC dI dA B0 H0 φ T0 h H) {H' : Heap} {a : Nat} {x x' y : am_C} (F : am_F ad B0 φ) (hy : am_k20 y = false) (ha : h.1 a = some y) (hx : x' = am_fc φ x) (hR : am_Rel dC dI dA B0 H0 (am_up (am_rh φ h) (φ (a + 1)) x') H') (ht : am_tot H' ≤ am_tot H) : am_J dC dI dA B0 H0 φ T0 (am_up h a x) H' := by
  subst hx
  have hne := hJ.ne hy ha
  rw [am_rh_up F.1 hne] at hR
  obtain ⟨-, h1, h2, h3, h4, n, f, h5, h6⟩ := hJ
  refine ⟨hR, h1, Nat.le_trans ht h2, h3, h4, n, f, ?_, h6⟩
  show (if 24 = a then some x else h.1 24) = _
  rw [if_neg (fun z => hne z.symm)]
  exact h5
theorem am_J.nw (hJ : am_J dC dI dA B0 H0 φ T0 h H) {H' : Heap} {n : Nat} {x x' : am_C} (F : am_F ad B0 φ) (hx : x' = am_fc φ x) (hR : am_Rel dC dI dA B0 H0 (am_nw (am_rh φ h) x' n) H') (ht : am_tot H' ≤ am_tot H + n) (hc : h.2.1 < am_capC) (hs : h.2.2 + n ≤ am_capS) : am_J dC dI dA B0 H0 φ T0 (am_nw h x n) H' := by
  subst hx
  obtain ⟨-, h1, h2, h3, h4, n', f, h5, h6⟩ := hJ
  rw [am_rh_nw F.1 (by omega) (by rw [F.2.1 _ (by omega), F.2.1 _ h1]; omega)] at hR
  refine ⟨hR, ?_, ?_, hc, hs, n', f, ?_, h6⟩
  · show 25 ≤ h.2.1 + 1
    omega
  · show am_tot H' ≤ T0 + (h.2.2 + n)
    omega
  · show (if 24 = h.2.1 then some x else h.1 24) = _
    rw [if_neg (by omega)]
    exact h5
/-- the script -/
theorem am_J.scr (hJ : am_J dC dI dA B0 H0 φ T0 h H) {n : Nat} {f : Nat → Value} (ha : h.1 24 = some (.inl (20, n, f))) : ∃ h1 : am_H, am_Rel dC dI dA B0 H0 h1 H ∧ h1.1 (φ 0) = some (.inl (20, n, fun j => am_fv φ (f j))) := by
  obtain ⟨⟨r1, r2, r3, -⟩, -, -, -, -, n', f', h5, h6, h7⟩ := hJ
  rw [h5] at ha
  cases ha
  refine ⟨(fun b => if b = φ 0 then some (.inl (20, n, fun j => am_fv φ (f j))) else none, H.size, 0), ⟨rfl, by show B0 ≤ H.size; rw [r1]; exact r2, r3, fun b x hb => ?_⟩, by simp⟩
  by_cases e : b = φ 0
  · subst e
    simp only [if_true] at hb
    cases hb
    exact ⟨am_at.kept h6 (r3 _ h7), fun z => by simp [am_wr] at z⟩
  · simp only [if_neg e] at hb
    cases hb
theorem am_getf_ok (X : am_X dC dI dA ad B0 H0 φ T0 m nL cc p l R s mi args meth c) {q a : Nat} {fs : List Value} {v : Value} (hk : (am_cd m).lookup pc = some (k, .getfield q)) (ha : h.1 a = some (.inr (q / 128, fs))) (hn : fs.length = am_nf (q / 128)) (hv : fs[q % 128]? = some v)
    (hk2 : am_PP dC dI dA B0 H0 φ T0 nL p l e R s mi args below meth c Z (pc + 3) L (v :: T) h) : am_PP dC dI dA B0 H0 φ T0 nL p l e R s mi args below meth c Z pc L (.ref a :: T) h := by
  intro H locs ls c0 s0 hJ hlo hl hL
  obtain ⟨hd, hc⟩ := X.row hk
  obtain ⟨⟨hx, hb, hts, hown, -⟩, ⟨hK, -, -, F⟩, -⟩ := X
  simp only [am_ck1, Bool.and_eq_true, Bool.or_eq_true, decide_eq_true_eq, List.contains_iff_mem] at hc
  obtain ⟨r, hr, hrn⟩ := am_cl_some hc.1
  have hlt : q % 128 < r.2.2 := by rw [hrn, ← hn]; exact (List.getElem?_eq_some_iff.mp hv).1
  have ha' := hJ.at F rfl ha
  have hv' : (fs.map (am_fv φ))[q % 128]? = some (am_fv φ v) := by rw [List.getElem?_map, hv]; rfl
  rcases hc.2 with hc | hc
  · exact am_getfW hx hb hts hown hK.1 hJ.1 hr hlt (hts _ (am_fl_ok _ hc)) ha' hv' hd (hk2 H locs ls c0 s0 hJ hlo hl hL)
  · exact am_getNW hx hb hts hown hK.1 hJ.1 hr hlt (am_okw_use rfl (hK.2.2.1 _ (am_fn_ok _ hc) rfl)) ha' hv' hd (hk2 H locs ls c0 s0 hJ hlo hl hL)
theorem am_putf_ok (X : am_X dC dI dA ad B0 H0 φ T0 m nL cc p l R s mi args meth c) {q a : Nat} {fs : List Value} {v : Value} (hk : (am_cd m).lookup pc = some (k, .putfield q)) (ha : h.1 a = some (.inr (q / 128, fs))) (hn : fs.length = am_nf (q / 128)) (hv : q % 128 < fs.length) (hfit : am_fit (am_fty (q / 128) (q % 128)) v)
    (hk2 : am_PP dC dI dA B0 H0 φ T0 nL p l e R s mi args below meth c Z (pc + 3) L T (am_up h a (.inr (q / 128, fs.set (q % 128) v)))) : am_PP dC dI dA B0 H0 φ T0 nL p l e R s mi args below meth c Z pc L (v :: .ref a :: T) h := by
  intro H locs ls c0 s0 hJ hlo hl hL
  obtain ⟨hd, hc⟩ := X.row hk
  have hini := X.2.2.1.2
  obtain ⟨⟨hx, hb, hts, hown, -⟩, ⟨hK, -, -, F⟩, -⟩ := X
  simp only [am_ck1, Bool.and_eq_true, Bool.or_eq_true, decide_eq_true_eq, List.contains_iff_mem, Bool.not_eq_true', beq_iff_eq] at hc
  obtain ⟨r, hr, hrn⟩ := am_cl_some hc.1
  have hlt : q % 128 < r.2.2 := by rw [hrn, ← hn]; exact hv
  have ha' := hJ.at F rfl ha
  have hlen : (fs.map (am_fv φ)).length = r.2.2 := by rw [List.length_map, hrn, hn]
  refine am_Wex fun g1 g2 => ?_
  have kk : ∀ H' locs', am_Rel dC dI dA B0 H0 (am_up (am_rh φ h) (φ (a + 1)) (.inr (q / 128, (fs.map (am_fv φ)).set (q % 128) (am_fv φ v)))) H' → (∀ q ∈ locs', B0 ≤ q.base) → W p l e R s mi args below meth c H' locs' (H.size - s.heap.size) (am_tot H - am_tot s.heap) Z (F0 mi (pc + 3) ls (T.map (am_fv φ))) := by
    intro H' locs' hR hlo'
    refine am_Wtot fun _ ht => ?_
    exact hk2 H' locs' ls _ _ (hJ.up F rfl ha (by simp [am_fc, List.map_set]) hR (by omega)) hlo' hl hL
  have hc8 := hc.1
  rcases hc.2 with ⟨hc, h2⟩ | ⟨hc, h2⟩
  · refine am_putfW hx hb hts hown hK.1 hJ.1 hlo hr hlt hc8 hlen (hts _ (am_fl_ok _ hc)) ?_ ha' (am_fit_fv hfit) hd kk
    rcases h2 with h2 | h2
    · exact Or.inl h2
    · cases hz : (am_fld q).2.2.2
      · exact Or.inl rfl
      · exact Or.inr ⟨rfl, hini h2.1, h2.2⟩
  · exact am_putNW hx hb hts hown hK.1 hJ.1 hlo hr hlt hc8 hlen (am_okw_use rfl (hK.2.2.1 _ (am_fn_ok _ hc) rfl)) h2 ha' (am_fit_fv hfit) hd kk
theorem am_gets_ok (X : am_X dC dI dA ad B0 H0 φ T0 m nL cc p l R s mi args meth c) {q : Nat} (hk : (am_cd m).lookup pc = some (k, .getstatic q))
    (hk2 : am_PP dC dI dA B0 H0 φ T0 nL p l e R s mi args below meth c Z (pc + 3) L (.ref q :: S) h) : am_PP dC dI dA B0 H0 φ T0 nL p l e R s mi args below meth c Z pc L S h := by
  intro H locs ls c0 s0 hJ hlo hl hL
  obtain ⟨hd, hc⟩ := X.row hk
  obtain ⟨⟨hx, hb, hts, hown, -⟩, ⟨hK, -, -, F⟩, -⟩ := X
  simp only [am_ck1, Bool.and_eq_true, decide_eq_true_eq, List.contains_iff_mem] at hc
  have h1 := hk2 H locs ls c0 s0 hJ hlo hl hL
  have hlt : q < am_sta.length := hc.2
  have e1 : am_sta[q]? = some (am_sta.getD q ("", "", "")) := by rw [List.getD_eq_getElem?_getD, List.getElem?_eq_getElem hlt]; rfl
  simp only [List.map_cons, am_fv, F.2.2 q hc.2] at h1
  exact am_getsW hx hb hown hJ.1 (hK.2.2.2.2.1 q _ e1) (hts _ (am_sl_ok _ hc.1)) hd h1
theorem am_ld_ok (X : am_X dC dI dA ad B0 H0 φ T0 m nL cc p l R s mi args meth c) (hk : (am_cd m).lookup pc = some (k, i)) {κ n a : Nat} {f : Nat → Value} {j : Int32} (ha : h.1 a = some (.inl (κ, n, f))) (hin : vp_in j n)
    (hi : (i = .iaload ∧ κ = 1) ∨ (i = .caload ∧ κ = 0) ∨ (i = .baload ∧ κ = 2) ∨ (i = .laload ∧ κ = 3) ∨ (i = .daload ∧ κ = 4) ∨ (i = .aaload ∧ 5 ≤ κ ∧ κ < 11))
    (hk2 : am_PP dC dI dA B0 H0 φ T0 nL p l e R s mi args below meth c Z (pc + 1) L (f j.toNatClampNeg :: T) h) : am_PP dC dI dA B0 H0 φ T0 nL p l e R s mi args below meth c Z pc L (.int j :: .ref a :: T) h := by
  intro H locs ls c0 s0 hJ hlo hl hL
  obtain ⟨hd, -⟩ := X.row hk
  obtain ⟨⟨hx, hb, hts, hown, -⟩, ⟨hK, -, -, F⟩, -⟩ := X
  have h20 : am_k20 (.inl (κ, n, f)) = false := by simp [am_k20]; omega
  have ha' := hJ.at F h20 ha
  have h1 := hk2 H locs ls c0 s0 hJ hlo hl hL
  rcases hi with ⟨rfl, rfl⟩ | ⟨rfl, rfl⟩ | ⟨rfl, rfl⟩ | ⟨rfl, rfl⟩ | ⟨rfl, rfl⟩ | ⟨rfl, h2, h3⟩
  · exact am_ialdW hx hb hJ.1 (hK.2.1.1 1 _ rfl).1 ha' hin hd h1
  · exact am_caldW hx hb hJ.1 (hK.2.1.1 0 _ rfl).1 ha' hin hd h1
  · exact am_zaldW hx hb hJ.1 (hK.2.1.1 2 _ rfl).1 ha' hin hd h1
  · exact am_laldW hx hb hJ.1 (hK.2.1.1 3 _ rfl).1 ha' hin hd h1
  · exact am_daldW hx hb hJ.1 (hK.2.1.1 4 _ rfl).1 ha' hin hd h1
  · have h5 : κ = 5 ∨ κ = 6 ∨ κ = 7 ∨ κ = 8 ∨ κ = 9 ∨ κ = 10 := by omega
    rcases h5 with rfl | rfl | rfl | rfl | rfl | rfl <;> exact am_aaldW hx hb hJ.1 (hK.2.1.1 _ _ rfl).1 rfl ha' hin hd h1
theorem am_lds_ok (X : am_X dC dI dA ad B0 H0 φ T0 m nL cc p l R s mi args meth c) (hk : (am_cd m).lookup pc = some (k, .iaload)) {n w : Nat} {f : Nat → Value} {j : Int32} (ha : h.1 24 = some (.inl (20, n, f))) (hin : vp_in j n)
    (hk2 : am_PP dC dI dA B0 H0 φ T0 nL p l e R s mi args below meth c Z (pc + 1) L (f j.toNatClampNeg :: T) h) : am_PP dC dI dA B0 H0 φ T0 nL p l e R s mi args below meth c Z pc L (.int j :: .retAddr w :: T) h := by
  intro H locs ls c0 s0 hJ hlo hl hL
  obtain ⟨hd, -⟩ := X.row hk
  obtain ⟨⟨hx, hb, hts, hown, -⟩, ⟨hK, -, -, F⟩, -⟩ := X
  obtain ⟨h1, hR, ha'⟩ := hJ.scr ha
  exact am_ialdW hx hb hR hK.2.1.2 ha' hin hd (hk2 H locs ls c0 s0 hJ hlo hl hL)
theorem am_lens_ok (X : am_X dC dI dA ad B0 H0 φ T0 m nL cc p l R s mi args meth c) (hk : (am_cd m).lookup pc = some (k, .arraylength)) {n w : Nat} {f : Nat → Value} (ha : h.1 24 = some (.inl (20, n, f)))
    (hk2 : am_PP dC dI dA B0 H0 φ T0 nL p l e R s mi args below meth c Z (pc + 1) L (.int n.toInt32 :: T) h) : am_PP dC dI dA B0 H0 φ T0 nL p l e R s mi args below meth c Z pc L (.retAddr w :: T) h := by
  intro H locs ls c0 s0 hJ hlo hl hL
  obtain ⟨hd, -⟩ := X.row hk
  obtain ⟨⟨hx, hb, hts, hown, -⟩, ⟨hK, -, -, F⟩, -⟩ := X
  obtain ⟨h1, hR, ha'⟩ := hJ.scr ha
  exact am_alenW hx hb hR hK.2.1.2 ha' hd (hk2 H locs ls c0 s0 hJ hlo hl hL)
theorem am_st_ok (X : am_X dC dI dA ad B0 H0 φ T0 m nL cc p l R s mi args meth c) (hk : (am_cd m).lookup pc = some (k, i)) {κ n a : Nat} {f : Nat → Value} {j : Int32} {v : Value} (ha : h.1 a = some (.inl (κ, n, f))) (hin : vp_in j n)
    (hi : (i = .iastore ∧ κ = 1 ∧ am_isI v = true) ∨ (i = .castore ∧ κ = 0 ∧ am_isI v = true ∧ narrow .char v = v) ∨ (i = .bastore ∧ κ = 2 ∧ am_isI v = true ∧ narrow .boolean v = v) ∨ (i = .lastore ∧ κ = 3 ∧ am_isL v = true) ∨ (i = .dastore ∧ κ = 4 ∧ am_isD v = true) ∨ (i = .aastore ∧ (5 ≤ κ ∧ κ < 11) ∧ (v = .null ∨ ∃ b cv fs, v = .ref b ∧ h.1 b = some (.inr (cv, fs)) ∧ am_into κ cv = true)))
    (hk2 : am_PP dC dI dA B0 H0 φ T0 nL p l e R s mi args below meth c Z (pc + 1) L T (am_up h a (.inl (κ, n, updV f j.toNatClampNeg v)))) : am_PP dC dI dA B0 H0 φ T0 nL p l e R s mi args below meth c Z pc L (v :: .int j :: .ref a :: T) h := by
  intro H locs ls c0 s0 hJ hlo hl hL
  obtain ⟨hd, -⟩ := X.row hk
  obtain ⟨⟨hx, hb, hts, hown, -⟩, ⟨hK, -, -, F⟩, -⟩ := X
  have h20 : am_k20 (.inl (κ, n, f)) = false := by simp [am_k20]; omega
  have ha' := hJ.at F h20 ha
  refine am_Wex fun g1 g2 => ?_
  have kk : ∀ H' locs', am_Rel dC dI dA B0 H0 (am_up (am_rh φ h) (φ (a + 1)) (.inl (κ, n, updV (fun x => am_fv φ (f x)) j.toNatClampNeg (am_fv φ v)))) H' → (∀ q ∈ locs', B0 ≤ q.base) → W p l e R s mi args below meth c H' locs' (H.size - s.heap.size) (am_tot H - am_tot s.heap) Z (F0 mi (pc + 1) ls (T.map (am_fv φ))) := by
    intro H' locs' hR hlo'
    refine am_Wtot fun _ ht => ?_
    exact hk2 H' locs' ls _ _ (hJ.up F h20 ha (by simp only [am_fc]; rw [am_upd_fv]) hR (by omega)) hlo' hl hL
  rcases hi with ⟨rfl, rfl, hv⟩ | ⟨rfl, rfl, hv, hv2⟩ | ⟨rfl, rfl, hv, hv2⟩ | ⟨rfl, rfl, hv⟩ | ⟨rfl, rfl, hv⟩ | ⟨rfl, h2, hv⟩
  · cases v <;> simp [am_isI] at hv
    exact am_iastW hx hb hJ.1 hlo (hK.2.1.1 1 _ rfl).1 (by decide) ha' hin hd kk
  · cases v <;> simp [am_isI] at hv
    exact am_castW hx hb hJ.1 hlo (hK.2.1.1 0 _ rfl).1 (by decide) ha' hin hv2 hd kk
  · cases v <;> simp [am_isI] at hv
    exact am_zastW hx hb hJ.1 hlo (hK.2.1.1 2 _ rfl).1 (by decide) ha' hin hv2 hd kk
  · cases v <;> simp [am_isL] at hv
    exact am_lastW hx hb hJ.1 hlo (hK.2.1.1 3 _ rfl).1 (by decide) ha' hin hd kk
  · cases v <;> simp [am_isD] at hv
    exact am_dastW hx hb hJ.1 hlo (hK.2.1.1 4 _ rfl).1 (by decide) ha' hin hd kk
  · have h5 : κ = 5 ∨ κ = 6 ∨ κ = 7 ∨ κ = 8 ∨ κ = 9 ∨ κ = 10 := by omega
    rcases hv with rfl | ⟨b, cv, fs, rfl, hb2, hin2⟩
    · rcases h5 with rfl | rfl | rfl | rfl | rfl | rfl <;> exact am_aastNW hx hb hJ.1 hlo (hK.2.1.1 _ _ rfl).1 (by simp) ha' hin hd kk
    · have hb' := hJ.at F rfl hb2
      rcases h5 with rfl | rfl | rfl | rfl | rfl | rfl <;> exact am_aastW hx hb hJ.1 hlo (hK.2.1.1 _ _ rfl).2 (hK.2.2.2.2.2.2.2.1 _ cv _ rfl hin2).1 (hK.2.2.2.2.2.2.2.1 _ cv _ rfl hin2).2 (by simp) ha' hb' hin hd kk
theorem am_len_ok (X : am_X dC dI dA ad B0 H0 φ T0 m nL cc p l R s mi args meth c) (hk : (am_cd m).lookup pc = some (k, .arraylength)) {κ n a : Nat} {f : Nat → Value} (ha : h.1 a = some (.inl (κ, n, f))) (h2 : κ < 11)
    (hk2 : am_PP dC dI dA B0 H0 φ T0 nL p l e R s mi args below meth c Z (pc + 1) L (.int n.toInt32 :: T) h) : am_PP dC dI dA B0 H0 φ T0 nL p l e R s mi args below meth c Z pc L (.ref a :: T) h := by
  intro H locs ls c0 s0 hJ hlo hl hL
  obtain ⟨hd, -⟩ := X.row hk
  obtain ⟨⟨hx, hb, hts, hown, -⟩, ⟨hK, -, -, F⟩, -⟩ := X
  have ha' := hJ.at F (by simp [am_k20]; omega) ha
  have h1 := hk2 H locs ls c0 s0 hJ hlo hl hL
  have h3 : κ < am_tys.length := h2
  exact am_alenW hx hb hJ.1 (hK.2.1.1 κ _ (List.getElem?_eq_getElem h3)).1 ha' hd h1
theorem am_newa_ok (X : am_X dC dI dA ad B0 H0 φ T0 m nL cc p l R s mi args meth c) {t : ArrayType} (hk : (am_cd m).lookup pc = some (k, .newarray t)) {x : Int32} (ht : am_ak t < 5) (hn : ¬ x < 0) (hm : x.toNatClampNeg ≤ 10000) (hc : h.2.1 < am_capC) (hs : h.2.2 + x.toNatClampNeg ≤ am_capS)
    (hk2 : am_PP dC dI dA B0 H0 φ T0 nL p l e R s mi args below meth c Z (pc + 2) L (.ref h.2.1 :: T) (am_nw h (.inl (am_ak t, x.toNatClampNeg, fun _ => defaultValue (newarray.typeOf t))) x.toNatClampNeg)) : am_PP dC dI dA B0 H0 φ T0 nL p l e R s mi args below meth c Z pc L (.int x :: T) h := by
  intro H locs ls c0 s0 hJ hlo hl hL
  obtain ⟨hd, -⟩ := X.row hk
  obtain ⟨⟨hx, hb, hts, hown, -⟩, ⟨hK, -, -, F⟩, -, hR1, hR2, -⟩ := X
  have hsz := hJ.size F
  have hto := hJ.2.2.1
  have h25 := hJ.2.1
  have hc9 := hc
  have hs9 := hs
  simp only [am_capC] at hc
  simp only [am_capS] at hs
  refine am_Wex fun g1 g2 => ?_
  have kk : ∀ H', am_Rel dC dI dA B0 H0 (am_nw (am_rh φ h) (.inl (am_ak t, x.toNatClampNeg, fun _ => defaultValue (newarray.typeOf t))) x.toNatClampNeg) H' → W p l e R s mi args below meth c H' locs (H.size - s.heap.size + 1) (am_tot H - am_tot s.heap + x.toNatClampNeg) Z (F0 mi (pc + 2) ls (.ref (am_rh φ h).2.1 :: T.map (am_fv φ))) := by
    intro H' hR
    refine am_Wtot fun _ ht => ?_
    exact hk2 H' locs ls _ _ (hJ.nw F (by simp only [am_fc, am_def_fv]) hR (by omega) hc9 hs9) hlo hl hL
  have hc1 : H.size - s.heap.size + 1 ≤ R.cells := by omega
  have hc2 : am_tot H - am_tot s.heap + x.toNatClampNeg ≤ R.slots := by omega
  cases t <;> simp [am_ak] at ht
  · exact am_newaW hx hb hts hJ.1 (κ := 2) (at_ := .boolean) q1625 (hK.2.1.1 2 _ rfl).2 hn (by show x.toNatClampNeg * 1 ≤ _; omega) hc1 hc2 hd kk
  · exact am_newaW hx hb hts hJ.1 (κ := 0) (at_ := .char) q199 (hK.2.1.1 0 _ rfl).2 hn (by show x.toNatClampNeg * 2 ≤ _; omega) hc1 hc2 hd kk
  · exact am_newaW hx hb hts hJ.1 (κ := 4) (at_ := .double) q1627 (hK.2.1.1 4 _ rfl).2 hn (by show x.toNatClampNeg * 8 ≤ _; omega) hc1 hc2 hd kk
  · exact am_newaW hx hb hts hJ.1 (κ := 1) (at_ := .int) q200 (hK.2.1.1 1 _ rfl).2 hn (by show x.toNatClampNeg * 4 ≤ _; omega) hc1 hc2 hd kk
  · exact am_newaW hx hb hts hJ.1 (κ := 3) (at_ := .long) q1626 (hK.2.1.1 3 _ rfl).2 hn (by show x.toNatClampNeg * 8 ≤ _; omega) hc1 hc2 hd kk
theorem am_anew_ok (X : am_X dC dI dA ad B0 H0 φ T0 m nL cc p l R s mi args meth c) {κ : Nat} (hk : (am_cd m).lookup pc = some (k, .anewarray κ)) {x : Int32} (ht : 5 ≤ κ ∧ κ < 11) (hn : ¬ x < 0) (hm : x.toNatClampNeg ≤ 10000) (hc : h.2.1 < am_capC) (hs : h.2.2 + x.toNatClampNeg ≤ am_capS)
    (hk2 : am_PP dC dI dA B0 H0 φ T0 nL p l e R s mi args below meth c Z (pc + 3) L (.ref h.2.1 :: T) (am_nw h (.inl (κ, x.toNatClampNeg, fun _ => .null)) x.toNatClampNeg)) : am_PP dC dI dA B0 H0 φ T0 nL p l e R s mi args below meth c Z pc L (.int x :: T) h := by
  intro H locs ls c0 s0 hJ hlo hl hL
  obtain ⟨hd, hck⟩ := X.row hk
  obtain ⟨⟨hx, hb, hts, hown, -⟩, ⟨hK, -, -, F⟩, -, hR1, hR2, -⟩ := X
  simp only [am_ck1, Bool.and_eq_true, decide_eq_true_eq, List.contains_iff_mem] at hck
  have hl2 := hts _ (am_kl_ok _ hck.1.1)
  have hsz := hJ.size F
  have hto := hJ.2.2.1
  have h25 := hJ.2.1
  have hc9 := hc
  have hs9 := hs
  simp only [am_capC] at hc
  simp only [am_capS] at hs
  refine am_Wex fun g1 g2 => ?_
  have kk : ∀ H', am_Rel dC dI dA B0 H0 (am_nw (am_rh φ h) (.inl (κ, x.toNatClampNeg, fun _ => .null)) x.toNatClampNeg) H' → W p l e R s mi args below meth c H' locs (H.size - s.heap.size + 1) (am_tot H - am_tot s.heap + x.toNatClampNeg) Z (F0 mi (pc + 3) ls (.ref (am_rh φ h).2.1 :: T.map (am_fv φ))) := by
    intro H' hR
    refine am_Wtot fun _ ht => ?_
    exact hk2 H' locs ls _ _ (hJ.nw F rfl hR (by omega) hc9 hs9) hlo hl hL
  have hc1 : H.size - s.heap.size + 1 ≤ R.cells := by omega
  have hc2 : am_tot H - am_tot s.heap + x.toNatClampNeg ≤ R.slots := by omega
  have h5 : κ = 5 ∨ κ = 6 ∨ κ = 7 ∨ κ = 8 ∨ κ = 9 ∨ κ = 10 := by omega
  have h4 : x.toNatClampNeg * 4 ≤ 536870912 := by omega
  rcases h5 with rfl | rfl | rfl | rfl | rfl | rfl
  · exact am_anewW hx hb hts hown hJ.1 hl2 (am_okw_use rfl (hK.2.2.1 _ q184 rfl)) (hK.2.1.1 5 _ rfl).2 hn h4 hc1 hc2 hd kk
  · exact am_anewW hx hb hts hown hJ.1 hl2 (am_okw_use rfl (hK.2.2.1 _ q186 rfl)) (hK.2.1.1 6 _ rfl).2 hn h4 hc1 hc2 hd kk
  · exact am_anewW hx hb hts hown hJ.1 hl2 (am_okw_use rfl (hK.2.2.1 _ q188 rfl)) (hK.2.1.1 7 _ rfl).2 hn h4 hc1 hc2 hd kk
  · exact am_anewW hx hb hts hown hJ.1 hl2 (am_okw_use rfl (hK.2.2.1 _ q202 rfl)) (hK.2.1.1 8 _ rfl).2 hn h4 hc1 hc2 hd kk
  · exact am_anewW hx hb hts hown hJ.1 hl2 (am_okw_use rfl (hK.2.2.1 _ q204 rfl)) (hK.2.1.1 9 _ rfl).2 hn h4 hc1 hc2 hd kk
  · exact am_anewW hx hb hts hown hJ.1 hl2 (am_okw_use rfl (hK.2.2.1 _ q821 rfl)) (hK.2.1.1 10 _ rfl).2 hn h4 hc1 hc2 hd kk
end SN2
