/-! TYPES FOUND, in plain form -/
set_option maxRecDepth 100000
/-- the types of an expression were found: t its cell, K the cells that were kept -/
def IFp (e : tE) (E : tN) (tm : Nat → tE) (N : Nat) (g : Nat → Prop) (tm' : Nat → tE) (N' : Nat) (g' : Nat → Prop) (t : Nat) (K : Nat → Prop) : Prop := SP tm N g tm' N' g' ∧ t < N' ∧ NG tm' g' t ∧ (∀ V, VLs tm' N' V → J e false (ga E V) (.var 0) (V t)) ∧ (∀ V, VLs tm' N' V → (∀ c, K c → ty_w (V c) ≤ 80) → J e true (ga E V) (.var 0) (V t)) ∧ (∀ V lim τ, VLs tm N V → J e lim (ga E V) (.var 0) τ → ∃ V', VLs tm' N' V' ∧ (∀ c, c < N → V' c = V c) ∧ V' t = τ ∧ (lim = true → ∀ c, K c → ty_w (V' c) ≤ 80)) ∧ (∀ c, K c → c < N') ∧ K t
/-- it has no types -/
def IFn (e : tE) (E : tN) (tm : Nat → tE) (N : Nat) : Prop := ∀ V τ, VLs tm N V → ¬ J e true (ga E V) (.var 0) τ
/-- cells come -/
def EXT (tm : Nat → tE) (N : Nat) (g : Nat → Prop) (tm' : Nat → tE) (N' : Nat) (g' : Nat → Prop) : Prop := SF tm N ∧ N ≤ N' ∧ SF tm' N' ∧ (∀ c, c < N → tm' c = tm c) ∧ ∀ x, x < N → (g' x ↔ g x)
section TKK
variable {tm tm1 tm2 tm3 tm4 tm5 tm' : Nat → tE} {N N1 N2 N3 N' : Nat} {g g1 g2 g3 g5 g' : Nat → Prop} {E : tN} {e f a : tE} {t s u r c : Nat} {K K1 K2 : Nat → Prop} {V : Nat → tE}
theorem EXT.sp (h : EXT tm N g tm' N' g') : SP tm N g tm' N' g' := by
  obtain ⟨hs, hN, hs', he, hg⟩ := h
  refine ⟨hN, hs', fun V hV c hc => ?_, fun c hc hn x hx => ?_, fun z hz => ?_⟩
  · rw [hV c (by omega), he c hc]
  · rw [he c hc] at hx
    rw [hg x (hs c hc x hx).1]
    exact hn x hx
  · obtain ⟨h1, h2, h3⟩ := hz
    refine ⟨by omega, fun hz x hx => ?_, fun S hS V hV σ => ?_⟩
    · rw [he _ h1] at hx
      rw [hg x (hs _ h1 x hx).1]
      exact h2 hz x hx
    · have hV' : VLs tm N V := fun c hc => by rw [hV c (by omega), he c hc]
      rw [h3 S hS V hV']
      unfold IN
      rw [he _ h1]
      constructor
      · rintro ⟨W, w1, w2⟩
        exact ⟨W, fun x hx hgx => w1 x hx fun z => hgx ((hg x (hs _ h1 x hx).1).mpr z), w2⟩
      · rintro ⟨W, w1, w2⟩
        exact ⟨W, fun x hx hgx => w1 x hx fun z => hgx ((hg x (hs _ h1 x hx).1).mp z), w2⟩
/-- values for the variables that come -/
theorem EXT.val (h : EXT tm N g tm' N' g') (hV : VLs tm N V) (Y : Nat → tE) : ∃ V', VLs tm' N' V' ∧ (∀ c, c < N → V' c = V c) ∧ ∀ x, N ≤ x → x < N' → tm' x = .var (x + 3) → V' x = Y x := by
  obtain ⟨hs, hN, hs', he, hg⟩ := h
  refine ⟨fun c => ty_s (fun x => if x < N then V x else Y x) (tm' c), VLs.of hs', fun c hc => ?_, fun x h1 h2 hx => ?_⟩
  · show ty_s _ (tm' c) = V c
    rw [he c hc, hV c hc]
    exact ty_s_c fun x hx => if_pos (hs c hc x hx).1
  · show ty_s _ (tm' x) = Y x
    rw [hx, ty_s3, if_neg (by omega)]
/-- a cell that was free gets its term -/
theorem VLs.ini (hc : tm c = .var (c + 3)) (hcN : c < N) (w : tE) : VLs (upf tm c w) N V ↔ VLs tm N V ∧ V c = ty_s V w := by
  constructor
  · intro h
    refine ⟨fun x hx => ?_, ?_⟩
    · by_cases hxc : x = c
      · rw [hxc, hc, ty_s3]
      · have := h x hx
        rw [upf_ne hxc] at this
        exact this
    · have := h c hcN
      rw [upf_eq] at this
      exact this
  · rintro ⟨h, h1⟩ x hx
    by_cases hxc : x = c
    · rw [hxc, upf_eq]; exact h1
    · rw [upf_ne hxc]; exact h x hx
/-- a function and its argument -/
theorem IFp.app (hE : DP E) (h0 : WE tm N g E) (i1 : IFp f E tm N g tm1 N1 g1 t K1) (x1 : EXT tm1 N1 g1 tm2 N2 g2) (hu : N1 ≤ u ∧ u < N2 ∧ tm2 u = .var (u + 3)) (hr : N1 ≤ r ∧ r < N2 ∧ ¬ r = u ∧ tm2 r = .var (r + 3)) (i2 : IFp a E tm2 N2 g2 tm3 N3 g3 s K2) (hr3 : tm3 r = .var (r + 3)) (hp : SP tm N g tm5 N3 g5) (hu5 : NG tm5 g5 u) (hv : ∀ V, VLs tm5 N3 V ↔ VLs (upf tm3 r (.add (tm3 s) (tm3 u))) N3 V ∧ V t = V r) : IFp (.mul f a) E tm N g tm5 N3 g5 u (fun c => K1 c ∨ K2 c ∨ c = u) := by
  obtain ⟨p1, t1, n1, a1, b1, c1, k1, kt1⟩ := i1
  obtain ⟨p2, t2, n2, a2, b2, c2, k2, kt2⟩ := i2
  have hN1 := p1.1
  have hN2 := x1.2.1
  have hN3 := p2.1
  have x1s := x1.sp
  have hall : ∀ V, VLs tm5 N3 V → VLs tm3 N3 V ∧ VLs tm1 N1 V ∧ V t = .add (V s) (V u) := by
    intro V hV
    obtain ⟨q1, q2⟩ := (hv V).mp hV
    obtain ⟨q3, q4⟩ := (VLs.ini hr3 (by omega) _).mp q1
    refine ⟨q3, x1s.2.2.1 V (p2.2.2.1 V q3), ?_⟩
    rw [q2, q4, q3 s t2, q3 u (by omega)]
    rfl
  refine ⟨hp, by omega, hu5, fun V hV => ?_, fun V hV hK => ?_, fun V lim τ hV hJ => ?_, ?_, .inr (.inr rfl)⟩
  · obtain ⟨q1, q2, q3⟩ := hall V hV
    have j1 := a1 V q2
    rw [q3] at j1
    exact ⟨(fun z => by cases z), V s, j1, a2 V q1⟩
  · obtain ⟨q1, q2, q3⟩ := hall V hV
    have j1 := b1 V q2 fun c hc => hK c (.inl hc)
    rw [q3] at j1
    exact ⟨fun _ => hK u (.inr (.inr rfl)), V s, j1, b2 V q1 fun c hc => hK c (.inr (.inl hc))⟩
  · obtain ⟨hw, σ, j1, j2⟩ := hJ
    obtain ⟨V1, q1, q2, q3, q4⟩ := c1 V lim _ hV j1
    obtain ⟨V2, q5, q6, q7⟩ := x1.val q1 (fun x => if x = r then .add σ τ else τ)
    have e2 : ∀ c, c < N → V2 c = V c := fun c hc => (q6 c (by omega)).trans (q2 c hc)
    have hV2r : V2 r = .add σ τ := by rw [q7 r hr.1 hr.2.1 hr.2.2.2]; exact if_pos rfl
    have hV2u : V2 u = τ := by rw [q7 u hu.1 hu.2.1 hu.2.2]; exact if_neg fun z => hr.2.2.1 z.symm
    have j2' : J a lim (ga E V2) (.var 0) σ := by rw [hE.eq h0 e2]; exact j2
    obtain ⟨V3, q8, q9, q10, q11⟩ := c2 V2 lim σ q5 j2'
    have e3 : ∀ c, c < N1 → V3 c = V1 c := fun c hc => (q9 c (by omega)).trans (q6 c hc)
    have hV3r : V3 r = .add σ τ := (q9 r hr.2.1).trans hV2r
    have hV3u : V3 u = τ := (q9 u hu.2.1).trans hV2u
    refine ⟨V3, (hv V3).mpr ⟨(VLs.ini hr3 (by omega) _).mpr ⟨q8, ?_⟩, ?_⟩, fun c hc => (q9 c (by omega)).trans (e2 c hc), hV3u, fun hl c hc => ?_⟩
    · show V3 r = .add (ty_s V3 (tm3 s)) (ty_s V3 (tm3 u))
      rw [← q8 s t2, ← q8 u (by omega), q10, hV3u]; exact hV3r
    · rw [e3 t t1, q3, hV3r]
    · rcases hc with hc | hc | hc
      · rw [e3 c (k1 c hc)]; exact q4 hl c hc
      · exact q11 hl c hc
      · rw [hc, hV3u]; exact hw hl
  · rintro c (hc | hc | hc)
    · have := k1 c hc; omega
    · exact k2 c hc
    · rw [hc]; omega
/-- it has none: the function, the argument, or both together -/
theorem IFn.app1 (h : IFn f E tm N) : IFn (.mul f a) E tm N := fun V τ hV ⟨_, σ, j1, _⟩ => h V _ hV j1
theorem IFn.app2 (hE : DP E) (h0 : WE tm N g E) (i1 : IFp f E tm N g tm1 N1 g1 t K1) (x1 : EXT tm1 N1 g1 tm2 N2 g2) (h : IFn a E tm2 N2) : IFn (.mul f a) E tm N := by
  intro V τ hV ⟨_, σ, j1, j2⟩
  obtain ⟨V1, q1, q2, q3, _⟩ := i1.2.2.2.2.2.1 V true _ hV j1
  obtain ⟨V2, q5, q6, _⟩ := x1.val q1 (fun _ => τ)
  have hN1 := i1.1.1
  refine h V2 σ q5 ?_
  rw [hE.eq h0 fun c hc => (q6 c (by omega)).trans (q2 c hc)]
  exact j2
theorem IFn.app3 (hE : DP E) (h0 : WE tm N g E) (i1 : IFp f E tm N g tm1 N1 g1 t K1) (x1 : EXT tm1 N1 g1 tm2 N2 g2) (hu : N1 ≤ u ∧ u < N2 ∧ tm2 u = .var (u + 3)) (hr : N1 ≤ r ∧ r < N2 ∧ ¬ r = u ∧ tm2 r = .var (r + 3)) (i2 : IFp a E tm2 N2 g2 tm3 N3 g3 s K2) (hr3 : tm3 r = .var (r + 3)) (hv : ∀ V, VLs (upf tm3 r (.add (tm3 s) (tm3 u))) N3 V → V t = V r → ty_w (V t) ≤ 80 → False) : IFn (.mul f a) E tm N := by
  obtain ⟨p1, t1, n1, a1, b1, c1, k1, kt1⟩ := i1
  obtain ⟨p2, t2, n2, a2, b2, c2, k2, kt2⟩ := i2
  have hN1 := p1.1
  have hN2 := x1.2.1
  have hN3 := p2.1
  intro V τ hV ⟨hw, σ, j1, j2⟩
  obtain ⟨V1, q1, q2, q3, q4⟩ := c1 V true _ hV j1
  obtain ⟨V2, q5, q6, q7⟩ := x1.val q1 (fun x => if x = r then .add σ τ else τ)
  have e2 : ∀ c, c < N → V2 c = V c := fun c hc => (q6 c (by omega)).trans (q2 c hc)
  have hV2r : V2 r = .add σ τ := by rw [q7 r hr.1 hr.2.1 hr.2.2.2]; exact if_pos rfl
  have hV2u : V2 u = τ := by rw [q7 u hu.1 hu.2.1 hu.2.2]; exact if_neg fun z => hr.2.2.1 z.symm
  have j2' : J a true (ga E V2) (.var 0) σ := by rw [hE.eq h0 e2]; exact j2
  obtain ⟨V3, q8, q9, q10, q11⟩ := c2 V2 true σ q5 j2'
  have e3 : ∀ c, c < N1 → V3 c = V1 c := fun c hc => (q9 c (by omega)).trans (q6 c hc)
  have hV3r : V3 r = .add σ τ := (q9 r hr.2.1).trans hV2r
  have hV3u : V3 u = τ := (q9 u hu.2.1).trans hV2u
  refine hv V3 ((VLs.ini hr3 (by omega) _).mpr ⟨q8, ?_⟩) ?_ ?_
  · show V3 r = .add (ty_s V3 (tm3 s)) (ty_s V3 (tm3 u))
    rw [← q8 s t2, ← q8 u (by omega), q10, hV3u]; exact hV3r
  · rw [e3 t t1, q3, hV3r]
  · rw [e3 t t1]; exact q4 rfl t kt1
end TKK
