/-! TYPES FOUND, in plain form: names, constants, operations -/
set_option maxRecDepth 100000
section TNN
variable {tm tm1 tm2 tm3 tm4 tm' : Nat → tE} {N N1 N2 N3 N4 N' : Nat} {g g1 g2 g3 g4 g' : Nat → Prop} {E : tN} {e f a : tE} {t s u r c x o q k : Nat} {K K1 K2 : Nat → Prop} {V : Nat → tE} {z : Nat × Nat × Option tS} {v' : Nat} {k0 : tE}
theorem ga_find (h : E.find? (fun z => z.1 == c) = some z) : (ga E V).lookup c = some (nS V z) ∧ z ∈ E := by
  induction E with
  | nil => cases h
  | cons y E ih =>
    rw [List.find?_cons] at h
    show List.lookup c ((y.1, nS V y) :: ga E V) = _ ∧ _
    rw [List.lookup_cons]
    cases hy : y.1 == c with
    | true =>
      rw [hy] at h
      cases h
      have : (c == z.1) = true := by rw [beq_iff_eq] at hy ⊢; exact hy.symm
      rw [this]
      exact ⟨rfl, List.mem_cons_self ..⟩
    | false =>
      rw [hy] at h
      have : (c == y.1) = false := by
        cases hh : c == y.1 with
        | false => rfl
        | true => rw [beq_iff_eq] at hh; rw [hh, beq_self_eq_true] at hy; cases hy
      rw [this]
      exact ⟨(ih h).1, List.mem_cons_of_mem _ (ih h).2⟩
theorem nS_in (h : W1 tm N g z) (hV : VLs tm N V) {σ : tE} : nS V z σ ↔ IN tm g V z.2.1 σ := by
  obtain ⟨h1, h2, h3⟩ := h
  unfold nS
  cases hz : z.2.2 with
  | none =>
    show σ = V z.2.1 ↔ _
    constructor
    · intro e
      exact ⟨V, fun _ _ _ => rfl, by rw [e]; exact hV _ h1⟩
    · rintro ⟨W, w1, w2⟩
      rw [w2, hV _ h1]
      exact ty_s_c fun x hx => w1 x hx (h2 hz x hx)
  | some S => exact h3 S hz V hV σ
/-- a name -/
theorem IFp.name (h0 : WE tm N g E) (hE : DP E) (hz : E.find? (fun z => z.1 == c) = some z) (hp : SP tm N g tm' N' g') (ht : t < N') (hng : NG tm' g' t) (h1 : ∀ V, VLs tm' N' V → IN tm g V z.2.1 (V t)) (h2 : ∀ V σ, VLs tm N V → IN tm g V z.2.1 σ → ∃ V', VLs tm' N' V' ∧ (∀ c, c < N → V' c = V c) ∧ V' t = σ) : IFp (.var c) E tm N g tm' N' g' t (fun k => k = t) := by
  have hm : ∀ V, z ∈ E := fun V => (ga_find (V := V) hz).2
  have hw : W1 tm N g z := h0 z (hm fun _ => .var 0)
  refine ⟨hp, ht, hng, fun V hV => ?_, fun V hV hK => ?_, fun V lim τ hV hJ => ?_, fun k hk => by rw [hk]; exact ht, rfl⟩
  · exact ⟨(fun z => by cases z), _, (ga_find hz).1, (nS_in hw (hp.2.2.1 V hV)).mpr (h1 V hV)⟩
  · exact ⟨fun _ => hK t rfl, _, (ga_find hz).1, (nS_in hw (hp.2.2.1 V hV)).mpr (h1 V hV)⟩
  · obtain ⟨hl, S, hS, hτ⟩ := hJ
    rw [(ga_find (V := V) hz).1] at hS
    cases hS
    obtain ⟨V', q1, q2, q3⟩ := h2 V τ hV ((nS_in hw hV).mp hτ)
    exact ⟨V', q1, q2, q3, fun hlim k hk => by rw [hk, q3]; exact hl hlim⟩
/-- a constant whose type is there -/
theorem IFp.const (hs : SF tm N) (ht : t < N) (hng : NG tm g t) (hw : ty_w k0 ≤ 80) (hv : ∀ V, VLs tm N V → V t = k0) (hJ : ∀ lim Γ τ, J e lim Γ (.var 0) τ ↔ (lim = true → ty_w τ ≤ 80) ∧ τ = k0) : IFp e E tm N g tm N g t (fun k => k = t) := by
  refine ⟨SP.refl hs, ht, hng, fun V hV => (hJ _ _ _).mpr ⟨(fun z => by cases z), hv V hV⟩, fun V hV _ => (hJ _ _ _).mpr ⟨fun _ => by rw [hv V hV]; exact hw, hv V hV⟩, fun V lim τ hV hj => ?_, fun k hk => by rw [hk]; exact ht, rfl⟩
  obtain ⟨h1, h2⟩ := (hJ _ _ _).mp hj
  exact ⟨V, hV, fun _ _ => rfl, by rw [h2]; exact hv V hV, fun _ k hk => by rw [hk, hv V hV]; exact hw⟩
/-- the empty list -/
theorem IFp.nil (x1 : EXT tm N g tm' N' g') (hx : N ≤ x ∧ x < N' ∧ tm' x = .var (x + 3)) (ht : t < N') (htt : tm' t = .neg (.var (x + 3))) (hng : NG tm' g' t) : IFp (.pow (.natCast v') 3) E tm N g tm' N' g' t (fun k => k = t) := by
  have hvt : ∀ V, VLs tm' N' V → V t = .neg (V x) := fun V hV => by
    rw [hV t ht, htt]
    show Lean.Grind.CommRing.Expr.neg (ty_s V (.var (x + 3))) = _
    rw [ty_s3]
  refine ⟨x1.sp, ht, hng, fun V hV => ⟨(fun z => by cases z), ?_⟩, fun V hV hK => ⟨fun _ => hK t rfl, ?_⟩, fun V lim τ hV hj => ?_, fun k hk => by rw [hk]; exact ht, rfl⟩
  · exact ⟨V x, hvt V hV⟩
  · exact ⟨V x, hvt V hV⟩
  · obtain ⟨h1, h2⟩ := hj
    have h2 : ∃ α, τ = .neg α := h2
    obtain ⟨α, rfl⟩ := h2
    obtain ⟨V', q1, q2, q3⟩ := x1.val hV (fun _ => α)
    have e : V' t = .neg α := by rw [hvt V' q1, q3 x hx.1 hx.2.1 hx.2.2]
    exact ⟨V', q1, q2, e, fun hl k hk => by rw [hk, e]; exact h1 hl⟩
/-- an operation on numbers or reals -/
theorem IFp.op (hE : DP E) (h0 : WE tm N g E) (hq : ¬ q = 44) (i1 : IFp f E tm N g tm1 N1 g1 t K1) (hu1 : UNI tm1 N1 g1 tm2 g2 t o) (ho : o < N) (hob : ∀ V, VLs tm N V → V o = opT q) (i2 : IFp a E tm2 N1 g2 tm3 N3 g3 s K2) (hu2 : UNI tm3 N3 g3 tm' g' s o) (hr : r < N) (hrb : ∀ V, VLs tm N V → V r = opR q) (hng : NG tm g r) : IFp (.pow (.add f a) q) E tm N g tm' N3 g' r (fun k => K1 k ∨ K2 k ∨ k = r) := by
  obtain ⟨p1, t1, n1, a1, b1, c1, k1, kt1⟩ := i1
  obtain ⟨p2, t2, n2, a2, b2, c2, k2, kt2⟩ := i2
  have hN1 := p1.1
  have hN3 := p2.1
  have hall : ∀ V, VLs tm' N3 V → VLs tm3 N3 V ∧ VLs tm1 N1 V ∧ V t = opT q ∧ V s = opT q ∧ V r = opR q := by
    intro V hV
    obtain ⟨q1, q2⟩ := (hu2.2 V).mp hV
    obtain ⟨q4, q5⟩ := (hu1.2 V).mp (p2.2.2.1 V q1)
    have q6 := p1.2.2.1 V q4
    exact ⟨q1, q4, q5.trans (hob V q6), q2.trans (hob V q6), hrb V q6⟩
  have hps := ((p1.trans hu1.1).trans p2).trans hu2.1
  refine ⟨hps, by omega, hps.2.2.2.1 r hr hng, fun V hV => ?_, fun V hV hK => ?_, fun V lim τ hV hJ => ?_, ?_, .inr (.inr rfl)⟩
  · obtain ⟨q1, q2, q3, q4, q5⟩ := hall V hV
    refine ⟨(fun z => by cases z), ?_⟩
    rw [if_neg hq]
    have j1 := a1 V q2
    have j2 := a2 V q1
    rw [q3] at j1
    rw [q4] at j2
    exact ⟨j1, j2, q5⟩
  · obtain ⟨q1, q2, q3, q4, q5⟩ := hall V hV
    refine ⟨fun _ => hK r (.inr (.inr rfl)), ?_⟩
    rw [if_neg hq]
    have j1 := b1 V q2 fun k hk => hK k (.inl hk)
    have j2 := b2 V q1 fun k hk => hK k (.inr (.inl hk))
    rw [q3] at j1
    rw [q4] at j2
    exact ⟨j1, j2, q5⟩
  · obtain ⟨hw, hJ⟩ := hJ
    rw [if_neg hq] at hJ
    obtain ⟨j1, j2, j3⟩ := hJ
    obtain ⟨V1, q1, q2, q3, q4⟩ := c1 V lim _ hV j1
    have q5 : VLs tm2 N1 V1 := (hu1.2 V1).mpr ⟨q1, by rw [q3, q2 o ho, hob V hV]⟩
    have j2' : J a lim (ga E V1) (.var 0) (opT q) := by rw [hE.eq h0 q2]; exact j2
    obtain ⟨V2, r1, r2, r3, r4⟩ := c2 V1 lim _ q5 j2'
    have hV2 : ∀ k, k < N → V2 k = V k := fun k hk => (r2 k (by omega)).trans (q2 k hk)
    refine ⟨V2, (hu2.2 V2).mpr ⟨r1, by rw [r3, hV2 o ho, hob V hV]⟩, hV2, by rw [hV2 r hr, hrb V hV, j3], fun hl k hk => ?_⟩
    rcases hk with hk | hk | hk
    · rw [r2 k (k1 k hk)]; exact q4 hl k hk
    · exact r4 hl k hk
    · rw [hk, hV2 r hr, hrb V hV, ← j3]; exact hw hl
  · rintro k (hk | hk | hk)
    · have := k1 k hk; omega
    · exact k2 k hk
    · rw [hk]; omega
theorem IFp.neg (i1 : IFp f E tm N g tm1 N1 g1 t K1) (hu1 : UNI tm1 N1 g1 tm' g' t o) (ho : o < N) (hob : ∀ V, VLs tm N V → V o = .var 2) (hng : NG tm g o) : IFp (.neg f) E tm N g tm' N1 g' o (fun k => K1 k ∨ k = o) := by
  obtain ⟨p1, t1, n1, a1, b1, c1, k1, kt1⟩ := i1
  have hN1 := p1.1
  have hps := p1.trans hu1.1
  have hall : ∀ V, VLs tm' N1 V → VLs tm1 N1 V ∧ V t = .var 2 ∧ V o = .var 2 := by
    intro V hV
    obtain ⟨q4, q5⟩ := (hu1.2 V).mp hV
    have q6 := hob V (p1.2.2.1 V q4)
    exact ⟨q4, q5.trans q6, q6⟩
  refine ⟨hps, by omega, hps.2.2.2.1 o ho hng, fun V hV => ?_, fun V hV hK => ?_, fun V lim τ hV hJ => ?_, ?_, .inr rfl⟩
  · obtain ⟨q1, q2, q3⟩ := hall V hV
    have j1 := a1 V q1
    rw [q2] at j1
    exact ⟨(fun z => by cases z), j1, q3⟩
  · obtain ⟨q1, q2, q3⟩ := hall V hV
    have j1 := b1 V q1 fun k hk => hK k (.inl hk)
    rw [q2] at j1
    exact ⟨fun _ => hK o (.inr rfl), j1, q3⟩
  · obtain ⟨hw, j1, rfl⟩ := hJ
    obtain ⟨V1, q1, q2, q3, q4⟩ := c1 V lim _ hV j1
    refine ⟨V1, (hu1.2 V1).mpr ⟨q1, by rw [q3, q2 o ho, hob V hV]⟩, q2, by rw [q2 o ho, hob V hV], fun hl k hk => ?_⟩
    rcases hk with hk | hk
    · exact q4 hl k hk
    · rw [hk, q2 o ho, hob V hV]; exact hw hl
  · rintro k (hk | hk)
    · exact k1 k hk
    · rw [hk]; omega
end TNN
