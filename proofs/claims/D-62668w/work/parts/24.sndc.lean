/-! THE SMALL MACHINE, 17: the real machine follows it: objects, constants, locals -/
set_option maxRecDepth 100000
theorem am_kn_cn {c : Nat} (h : c < 28) : am_kn c = am_cn c := by
  unfold am_kn
  split <;> first | omega | rfl
theorem am_on_cn {o : Nat} (h : 1 ≤ o) (h2 : o < 28) : am_on o = am_cn o := by
  unfold am_on
  split <;> first | omega | rfl
theorem am_cn_of {ci : Nat} {r : vw_C} (h : am_cl[ci]? = some r) : am_cn ci = r.1 := by unfold am_cn; rw [h]; rfl
theorem am_getD_le {l : List Nat} {b : Nat} (h : ∀ x ∈ l, x ≤ b) (m : Nat) : l.getD m 0 ≤ b := by
  rw [List.getD_eq_getElem?_getD]
  cases hz : l[m]? with
  | none => exact Nat.zero_le _
  | some x => exact h x (List.mem_of_getElem? hz)
theorem am_mL_le (m : Nat) : am_mL m ≤ 10 := am_getD_le (by decide) m
theorem am_vs_ow : ∀ m ∈ am_vs, 1 ≤ am_ow m ∧ am_ow m < 28 := by decide
theorem am_cat_sum (l : List Value) : (l.map fun v => v.category).sum ≤ 2 * l.length := by
  induction l with
  | nil => exact Nat.le_refl _
  | cons v t ih =>
    have : v.category ≤ 2 := by cases v <;> simp [Value.category]
    simp only [List.map_cons, List.sum_cons, List.length_cons]
    omega
theorem am_hs_ok (m : Nat) : ∀ q ∈ am_hs m, (am_ow m, q.2.2.2.1, q.2.2.2.2) ∈ am_kl ∧ q.2.2.2.1 ≠ 0 ∧ am_exc q.2.2.2.2 = true := by
  unfold am_hs
  split
  · decide +kernel
  · decide +kernel
  · decide +kernel
  · decide +kernel
  · decide +kernel
  · decide +kernel
  · intro q hq; cases hq
section SN3
variable {dC : Nat → ClassId} {dI : Nat → Nat → Nat} {dA : Nat → ClassId} {ad : Nat → Nat} {B0 : Nat} {H0 : Heap} {φ : Nat → Nat} {T0 : Nat} {m nL : Nat} {cc : ByteArray} {p : Program} {l : Launch} {e : Env} {R : Room} {s : State} {mi : MethodId} {args : Array Value} {below : List Frame} {meth : Method} {c : Code} {Z : State → Prop} {pc k : Nat} {i : Instr} {L : am_V} {S T : List Value} {h : am_H} {H : Heap} {locs : List Loc} {ls : Array Slot} {c0 s0 : Nat}
theorem am_new_ok (X : am_X dC dI dA ad B0 H0 φ T0 m nL cc p l R s mi args meth c) {ci : Nat} (hk : (am_cd m).lookup pc = some (k, .new ci)) (hc : h.2.1 < am_capC) (hs : h.2.2 + am_nf ci ≤ am_capS)
    (hk2 : am_PP dC dI dA B0 H0 φ T0 nL p l e R s mi args below meth c Z (pc + 3) L (.ref h.2.1 :: S) (am_nw h (.inr (ci, am_blank ci)) (am_nf ci))) : am_PP dC dI dA B0 H0 φ T0 nL p l e R s mi args below meth c Z pc L S h := by
  intro H locs ls c0 s0 hJ hlo hl hL
  obtain ⟨hd, hck⟩ := X.row hk
  obtain ⟨⟨hx, hb, hts, hown, -⟩, ⟨hK, -, -, F⟩, -, hR1, hR2, -⟩ := X
  simp only [am_ck1, Bool.and_eq_true, decide_eq_true_eq, List.contains_iff_mem] at hck
  have hl2 := hts _ (am_kl_ok _ hck.1.1)
  obtain ⟨r, hr, hrn⟩ := am_cl_some hck.1.2
  simp only [am_kn_cn hck.1.2, am_cn_of hr] at hl2
  have hsz := hJ.size F
  have hto := hJ.2.2.1
  have h25 := hJ.2.1
  have hc9 := hc
  have hs9 := hs
  simp only [am_capC] at hc
  simp only [am_capS] at hs
  refine am_Wex fun g1 g2 => ?_
  refine am_newW hx hb hts hown hK.1 hJ.1 hr hl2 (by omega) (by rw [hrn]; omega) hd fun H' hR => ?_
  rw [hrn] at hR ⊢
  refine am_Wtot fun _ ht => ?_
  exact hk2 H' locs ls _ _ (hJ.nw F (by simp only [am_fc, am_blank_fv]) hR (by omega) hc9 hs9) hlo hl hL
theorem am_cast_ok (X : am_X dC dI dA ad B0 H0 φ T0 m nL cc p l R s mi args meth c) {ci a : Nat} {fs : List Value} (hk : (am_cd m).lookup pc = some (k, .checkcast ci)) (ha : h.1 a = some (.inr (ci, fs)))
    (hk2 : am_PP dC dI dA B0 H0 φ T0 nL p l e R s mi args below meth c Z (pc + 3) L (.ref a :: T) h) : am_PP dC dI dA B0 H0 φ T0 nL p l e R s mi args below meth c Z pc L (.ref a :: T) h := by
  intro H locs ls c0 s0 hJ hlo hl hL
  obtain ⟨hd, hck⟩ := X.row hk
  obtain ⟨⟨hx, hb, hts, hown, -⟩, ⟨hK, -, -, F⟩, -⟩ := X
  simp only [am_ck1, Bool.and_eq_true, decide_eq_true_eq, List.contains_iff_mem] at hck
  have hl2 := hts _ (am_kl_ok _ hck.1)
  obtain ⟨r, hr, hrn⟩ := am_cl_some hck.2
  simp only [am_kn_cn hck.2, am_cn_of hr] at hl2
  exact va_castS hx hb hown hl2 (hK.1 _ _ hr).2 (am_cellOf hK.1 hJ.1 hr (hJ.at F rfl ha)) hd (hk2 H locs ls c0 s0 hJ hlo hl hL)
theorem am_inst_ok (X : am_X dC dI dA ad B0 H0 φ T0 m nL cc p l R s mi args meth c) {ci cj a : Nat} {fs : List Value} (hk : (am_cd m).lookup pc = some (k, .instanceof ci)) (ha : h.1 a = some (.inr (cj, fs))) (hj : am_val cj = true) (hi : am_val ci = true)
    (hk2 : am_PP dC dI dA B0 H0 φ T0 nL p l e R s mi args below meth c Z (pc + 3) L (.int (if cj = ci then 1 else 0) :: T) h) : am_PP dC dI dA B0 H0 φ T0 nL p l e R s mi args below meth c Z pc L (.ref a :: T) h := by
  intro H locs ls c0 s0 hJ hlo hl hL
  obtain ⟨hd, hck⟩ := X.row hk
  obtain ⟨⟨hx, hb, hts, hown, -⟩, ⟨hK, -, -, F⟩, -⟩ := X
  simp only [am_ck1, Bool.and_eq_true, decide_eq_true_eq, List.contains_iff_mem] at hck
  have hl2 := hts _ (am_kl_ok _ hck.1)
  obtain ⟨r, hr, hrn⟩ := am_cl_some hck.2
  simp only [am_kn_cn hck.2, am_cn_of hr] at hl2
  have h1 := hk2 H locs ls c0 s0 hJ hlo hl hL
  by_cases e0 : cj = ci
  · rw [if_pos e0] at h1
    subst e0
    exact va_instS hx hb hown hl2 (hK.1 _ _ hr).2 (am_cellOf hK.1 hJ.1 hr (hJ.at F rfl ha)) hd h1
  · rw [if_neg e0] at h1
    have hj2 : cj < 28 := by simp [am_val] at hj; omega
    obtain ⟨rj, hrj, -⟩ := am_cl_some hj2
    have hnc := hK.2.2.2.2.2.2.2.2.1 cj ci hj hi e0
    rw [am_cn_of hr, am_cn_of hrj] at hnc
    exact va_instNo hx hb hown hl2 hnc (am_cellOf hK.1 hJ.1 hrj (hJ.at F rfl ha)) hd h1
theorem am_ldc_ok (X : am_X dC dI dA ad B0 H0 φ T0 m nL cc p l R s mi args meth c) {ci : Nat} {v : Int32} (hk : (am_cd m).lookup pc = some (k, .ldc ci)) (hv : am_kv ci = .int v)
    (hk2 : am_PP dC dI dA B0 H0 φ T0 nL p l e R s mi args below meth c Z (pc + 2) L (.int v :: S) h) : am_PP dC dI dA B0 H0 φ T0 nL p l e R s mi args below meth c Z pc L S h := by
  intro H locs ls c0 s0 hJ hlo hl hL
  obtain ⟨hd, hck⟩ := X.row hk
  obtain ⟨⟨hx, hb, hts, hown, -⟩, -⟩ := X
  simp only [am_ck1, Bool.and_eq_true, List.contains_iff_mem] at hck
  have hl2 := hts _ (am_ck_ok _ hck.1)
  simp only [hv] at hl2
  exact lv_ldc hx hb hown hl2 hd (hk2 H locs ls c0 s0 hJ hlo hl hL)
theorem am_ldl_ok (X : am_X dC dI dA ad B0 H0 φ T0 m nL cc p l R s mi args meth c) {ci : Nat} {v : Int64} (hk : (am_cd m).lookup pc = some (k, .ldc2_w ci)) (hv : am_kv ci = .long v)
    (hk2 : am_PP dC dI dA B0 H0 φ T0 nL p l e R s mi args below meth c Z (pc + 3) L (.long v :: S) h) : am_PP dC dI dA B0 H0 φ T0 nL p l e R s mi args below meth c Z pc L S h := by
  intro H locs ls c0 s0 hJ hlo hl hL
  obtain ⟨hd, hck⟩ := X.row hk
  obtain ⟨⟨hx, hb, hts, hown, -⟩, -⟩ := X
  simp only [am_ck1, Bool.and_eq_true, List.contains_iff_mem] at hck
  have hl2 := hts _ (am_ck_ok _ hck.1.1)
  simp only [hv] at hl2
  exact lv_ldc2 hx hb hown hl2 hd (hk2 H locs ls c0 s0 hJ hlo hl hL)
theorem am_ldd_ok (X : am_X dC dI dA ad B0 H0 φ T0 m nL cc p l R s mi args meth c) {ci : Nat} {v : UInt64} (hk : (am_cd m).lookup pc = some (k, .ldc2_w ci)) (hv : am_kv ci = .double v)
    (hk2 : am_PP dC dI dA B0 H0 φ T0 nL p l e R s mi args below meth c Z (pc + 3) L (.double v :: S) h) : am_PP dC dI dA B0 H0 φ T0 nL p l e R s mi args below meth c Z pc L S h := by
  intro H locs ls c0 s0 hJ hlo hl hL
  obtain ⟨hd, hck⟩ := X.row hk
  obtain ⟨⟨hx, hb, hts, hown, -⟩, -⟩ := X
  simp only [am_ck1, Bool.and_eq_true, List.contains_iff_mem] at hck
  have hl2 := hts _ (am_ck_ok _ hck.1.1)
  simp only [hv] at hl2
  exact lv_ldc2d hx hb hown hl2 hd (hk2 H locs ls c0 s0 hJ hlo hl hL)
/-- loads and stores of locals -/
theorem am_lcl_ok (X : am_X dC dI dA ad B0 H0 φ T0 m nL cc p l R s mi args meth c) {n : Nat} {v : Value} (hk : (am_cd m).lookup pc = some (k, i)) (hv : am_ld L n = some v)
    (hi : ((∃ q : Fin 4, n = q ∧ i = .iload_n q) ∨ i = .iload n) ∧ am_isI v = true ∨ ((∃ q : Fin 4, n = q ∧ i = .lload_n q) ∨ i = .lload n) ∧ am_isL v = true ∨ ((∃ q : Fin 4, n = q ∧ i = .dload_n q) ∨ i = .dload n) ∧ am_isD v = true ∨ ((∃ q : Fin 4, n = q ∧ i = .aload_n q) ∨ i = .aload n) ∧ am_isR2 v = true)
    (hk2 : am_PP dC dI dA B0 H0 φ T0 nL p l e R s mi args below meth c Z (pc + am_len i) L (v :: S) h) : am_PP dC dI dA B0 H0 φ T0 nL p l e R s mi args below meth c Z pc L S h := by
  intro H locs ls c0 s0 hJ hlo hl hL
  obtain ⟨hd, -⟩ := X.row hk
  obtain ⟨⟨hx, hb, hts, hown, -⟩, -⟩ := X
  have h1 := hk2 H locs ls c0 s0 hJ hlo hl hL
  have h2 := am_has_ld hl hv
  rcases hi with ⟨hi, hz⟩ | ⟨hi, hz⟩ | ⟨hi, hz⟩ | ⟨hi, hz⟩ <;> rcases hi with ⟨q, rfl, rfl⟩ | rfl <;> cases v <;> simp [am_isI, am_isL, am_isD, am_isR2] at hz
  · exact lv_iload_n hx hb hd rfl h2 h1
  · exact lv_iload hx hb hd h2 h1
  · exact lv_lload_n hx hb hd rfl h2 h1
  · exact lv_lload hx hb hd h2 h1
  · exact lv_dload_n hx hb hd rfl h2 h1
  · exact lv_dload hx hb hd h2 h1
  · exact lv_aload_nN hx hb hd rfl h2 h1
  · exact lv_aload_n hx hb hd rfl h2 h1
  · exact lv_aload_n hx hb hd rfl h2 h1
  · exact lv_aloadN hx hb hd h2 h1
  · exact lv_aload hx hb hd h2 h1
  · exact lv_aload hx hb hd h2 h1
theorem am_sto_ok (X : am_X dC dI dA ad B0 H0 φ T0 m nL cc p l R s mi args meth c) {n : Nat} {v : Value} (hk : (am_cd m).lookup pc = some (k, i)) (hn : n < L.length)
    (hi : ((∃ q : Fin 4, n = q ∧ i = .istore_n q) ∨ i = .istore n) ∧ am_isI v = true ∨ ((∃ q : Fin 4, n = q ∧ i = .astore_n q) ∨ i = .astore n) ∧ am_isR v = true)
    (hk2 : am_PP dC dI dA B0 H0 φ T0 nL p l e R s mi args below meth c Z (pc + am_len i) (am_s1 L n v) T h) : am_PP dC dI dA B0 H0 φ T0 nL p l e R s mi args below meth c Z pc L (v :: T) h := by
  intro H locs ls c0 s0 hJ hlo hl hL
  obtain ⟨hd, -⟩ := X.row hk
  obtain ⟨⟨hx, hb, hts, hown, -⟩, -⟩ := X
  have h1 : ∀ ls', lv_has ls' nL ((n, am_fv φ v) :: (am_as φ 0 L).filter (fun q => !(q.1 == n) && !(q.1 + 1 == n && q.2.category == 2))) → W p l e R s mi args below meth c H locs c0 s0 Z (F0 mi (pc + am_len i) ls' (T.map (am_fv φ))) :=
    fun ls' h' => hk2 H locs ls' c0 s0 hJ hlo (am_has_s1 hn h') (by rw [am_s1_len]; exact hL)
  have hn2 : n < nL := by omega
  rcases hi with ⟨hi, hz⟩ | ⟨hi, hz⟩ <;> rcases hi with ⟨q, rfl, rfl⟩ | rfl <;> cases v <;> simp [am_isI, am_isR] at hz
  · exact lv_istore_n hx hb hd rfl hl hn2 rfl h1
  · exact lv_istore hx hb hd hl hn2 rfl h1
  · exact lv_astore_nN hx hb hd rfl hl hn2 rfl h1
  · exact lv_astore_n hx hb hd rfl hl hn2 rfl h1
  · exact lv_astoreN hx hb hd hl hn2 rfl h1
  · exact lv_astore hx hb hd hl hn2 rfl h1
theorem am_st2_ok (X : am_X dC dI dA ad B0 H0 φ T0 m nL cc p l R s mi args meth c) {n : Nat} {v : Value} (hk : (am_cd m).lookup pc = some (k, i)) (hn : n + 1 < L.length)
    (hi : ((∃ q : Fin 4, n = q ∧ i = .lstore_n q) ∨ i = .lstore n) ∧ am_isL v = true ∨ ((∃ q : Fin 4, n = q ∧ i = .dstore_n q) ∨ i = .dstore n) ∧ am_isD v = true)
    (hk2 : am_PP dC dI dA B0 H0 φ T0 nL p l e R s mi args below meth c Z (pc + am_len i) (am_s2 L n v) T h) : am_PP dC dI dA B0 H0 φ T0 nL p l e R s mi args below meth c Z pc L (v :: T) h := by
  intro H locs ls c0 s0 hJ hlo hl hL
  obtain ⟨hd, -⟩ := X.row hk
  obtain ⟨⟨hx, hb, hts, hown, -⟩, -⟩ := X
  have h1 : ∀ ls', lv_has ls' nL ((n, am_fv φ v) :: (am_as φ 0 L).filter (fun q => !(q.1 == n) && (!(q.1 == n + 1) && !(q.1 + 1 == n && q.2.category == 2)))) → W p l e R s mi args below meth c H locs c0 s0 Z (F0 mi (pc + am_len i) ls' (T.map (am_fv φ))) :=
    fun ls' h' => hk2 H locs ls' c0 s0 hJ hlo (am_has_s2 hn h') (Nat.le_trans (am_s2_len L n v) hL)
  have hn2 : n + 1 < nL := by omega
  rcases hi with ⟨hi, hz⟩ | ⟨hi, hz⟩ <;> rcases hi with ⟨q, rfl, rfl⟩ | rfl <;> cases v <;> simp [am_isL, am_isD] at hz
  · exact lv_lstore_n hx hb hd rfl hl hn2 rfl h1
  · exact lv_lstore hx hb hd hl hn2 rfl h1
  · exact lv_dstore_n hx hb hd rfl hl hn2 rfl h1
  · exact lv_dstore hx hb hd hl hn2 rfl h1
theorem am_iinc_ok (X : am_X dC dI dA ad B0 H0 φ T0 m nL cc p l R s mi args meth c) {n : Nat} {j : Int} {x : Int32} (hk : (am_cd m).lookup pc = some (k, .iinc n j)) (hn : n < L.length) (hv : am_ld L n = some (.int x))
    (hk2 : am_PP dC dI dA B0 H0 φ T0 nL p l e R s mi args below meth c Z (pc + 3) (am_s1 L n (.int (x + Int32.ofInt j))) S h) : am_PP dC dI dA B0 H0 φ T0 nL p l e R s mi args below meth c Z pc L S h := by
  intro H locs ls c0 s0 hJ hlo hl hL
  obtain ⟨hd, -⟩ := X.row hk
  obtain ⟨⟨hx, hb, hts, hown, -⟩, -⟩ := X
  have h1 : ∀ ls', lv_has ls' nL ((n, am_fv φ (.int (x + Int32.ofInt j))) :: (am_as φ 0 L).filter (fun q => !(q.1 == n) && !(q.1 + 1 == n && q.2.category == 2))) → W p l e R s mi args below meth c H locs c0 s0 Z (F0 mi (pc + 3) ls' (S.map (am_fv φ))) :=
    fun ls' h' => hk2 H locs ls' c0 s0 hJ hlo (am_has_s1 hn h') (by rw [am_s1_len]; exact hL)
  have hm : (n, am_fv φ (.int x)) ∈ am_as φ 0 L := by
    refine am_as_mem.mpr ⟨n, _, by omega, ?_, rfl⟩
    unfold am_ld at hv
    split at hv
    · rename_i e; cases hv; exact e
    · cases hv
  obtain ⟨q, hq⟩ := List.getElem?_of_mem hm
  exact lv_iinc hx hb hd hl hq rfl (by omega) rfl h1
end SN3
