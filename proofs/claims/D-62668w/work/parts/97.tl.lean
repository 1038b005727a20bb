/-! TYPES FOUND, in plain form: functions, operations, branches -/
set_option maxRecDepth 100000
def UNI (tm : Nat → tE) (N : Nat) (g : Nat → Prop) (tm' : Nat → tE) (g' : Nat → Prop) (a b : Nat) : Prop := SP tm N g tm' N g' ∧ ∀ V, VLs tm' N V ↔ VLs tm N V ∧ V a = V b
def UNF (tm : Nat → tE) (N a b : Nat) : Prop := ∀ V, VLs tm N V → V a = V b → ty_w (V a) ≤ 80 → False
section TLL
variable {tm tm1 tm2 tm3 tm4 tm5 tm6 tm' : Nat → tE} {N N1 N2 N3 N4 N5 N' : Nat} {g g1 g2 g3 g4 g5 g6 g' : Nat → Prop} {E : tN} {e f a b : tE} {t s u r c x y o q : Nat} {K K1 K2 K3 : Nat → Prop} {V : Nat → tE}
theorem ga_cons {z : Nat × Nat × Option tS} : ga (z :: E) V = (z.1, nS V z) :: ga E V := rfl
/-- a function -/
theorem IFp.fn (hE : DP E) (h0 : WE tm N g E) (x1 : EXT tm N g tm1 N1 g1) (hx : N ≤ x ∧ x < N1 ∧ tm1 x = .var (x + 3)) (hr : N ≤ r ∧ r < N1 ∧ ¬ r = x ∧ tm1 r = .var (r + 3)) (i1 : IFp b ((c, x, none) :: E) tm1 N1 g1 tm2 N2 g2 t K) (hr2 : tm2 r = .var (r + 3)) (hp : SP tm N g tm' N2 g') (hng : NG tm' g' r) (hv : ∀ V, VLs tm' N2 V ↔ VLs (upf tm2 r (.add (tm2 x) (tm2 t))) N2 V) : IFp (.pow (.neg b) c) E tm N g tm' N2 g' r (fun k => K k ∨ k = r) := by
  obtain ⟨p1, t1, n1, a1, b1, c1, k1, kt1⟩ := i1
  have hN := x1.2.1
  have hN1 := p1.1
  have hall : ∀ V, VLs tm' N2 V → VLs tm2 N2 V ∧ V r = .add (V x) (V t) := by
    intro V hV
    obtain ⟨q3, q4⟩ := (VLs.ini hr2 (by omega) _).mp ((hv V).mp hV)
    refine ⟨q3, ?_⟩
    rw [q4, q3 x (by omega), q3 t t1]
    rfl
  refine ⟨hp, by omega, hng, fun V hV => ?_, fun V hV hK => ?_, fun V lim τ hV hJ => ?_, ?_, .inr rfl⟩
  · obtain ⟨q1, q2⟩ := hall V hV
    exact ⟨(fun z => by cases z), V x, V t, q2, a1 V q1⟩
  · obtain ⟨q1, q2⟩ := hall V hV
    exact ⟨fun _ => hK r (.inr rfl), V x, V t, q2, b1 V q1 fun k hk => hK k (.inl hk)⟩
  · obtain ⟨hw, α, β, rfl, j1⟩ := hJ
    obtain ⟨V1, q5, q6, q7⟩ := x1.val hV (fun y => if y = r then .add α β else α)
    have hr1 : V1 r = .add α β := by rw [q7 r hr.1 hr.2.1 hr.2.2.2]; exact if_pos rfl
    have hx1 : V1 x = α := by rw [q7 x hx.1 hx.2.1 hx.2.2]; exact if_neg fun z => hr.2.2.1 z.symm
    have j1' : J b lim (ga ((c, x, none) :: E) V1) (.var 0) β := by
      rw [ga_cons]
      show J b lim ((c, fun τ => τ = V1 x) :: ga E V1) (.var 0) β
      rw [hx1, hE.eq h0 q6]
      exact j1
    obtain ⟨V2, q8, q9, q10, q11⟩ := c1 V1 lim β q5 j1'
    have hr2' : V2 r = .add α β := (q9 r hr.2.1).trans hr1
    refine ⟨V2, (hv V2).mpr ((VLs.ini hr2 (by omega) _).mpr ⟨q8, ?_⟩), fun k hk => (q9 k (by omega)).trans (q6 k hk), hr2', fun hl k hk => ?_⟩
    · show V2 r = .add (ty_s V2 (tm2 x)) (ty_s V2 (tm2 t))
      rw [← q8 x (by omega), ← q8 t t1, q10, q9 x hx.2.1, hx1]; exact hr2'
    · rcases hk with hk | hk
      · exact q11 hl k hk
      · rw [hk, hr2']; exact hw hl
  · rintro k (hk | hk)
    · exact k1 k hk
    · rw [hk]; omega
theorem IFn.fn (hE : DP E) (h0 : WE tm N g E) (x1 : EXT tm N g tm1 N1 g1) (hx : N ≤ x ∧ x < N1 ∧ tm1 x = .var (x + 3)) (h : IFn b ((c, x, none) :: E) tm1 N1) : IFn (.pow (.neg b) c) E tm N := by
  intro V τ hV ⟨hw, α, β, e, j1⟩
  obtain ⟨V1, q5, q6, q7⟩ := x1.val hV (fun _ => α)
  have hx1 : V1 x = α := q7 x hx.1 hx.2.1 hx.2.2
  refine h V1 β q5 ?_
  rw [ga_cons]
  show J b true ((c, fun τ => τ = V1 x) :: ga E V1) (.var 0) β
  rw [hx1, hE.eq h0 q6]
  exact j1
/-- a list's beginning -/
theorem IFp.cons (hE : DP E) (h0 : WE tm N g E) (i1 : IFp f E tm N g tm1 N1 g1 t K1) (x1 : EXT tm1 N1 g1 tm2 N2 g2) (hr : N1 ≤ r ∧ r < N2 ∧ tm2 r = .neg (tm1 t)) (i2 : IFp a E tm2 N2 g2 tm3 N3 g3 s K2) (hu : UNI tm3 N3 g3 tm' g' s r) (hng : NG tm' g' r) : IFp (.pow (.add f a) 44) E tm N g tm' N3 g' r (fun k => K1 k ∨ K2 k ∨ k = r) := by
  obtain ⟨p1, t1, n1, a1, b1, c1, k1, kt1⟩ := i1
  obtain ⟨p2, t2, n2, a2, b2, c2, k2, kt2⟩ := i2
  have hN1 := p1.1
  have hN2 := x1.2.1
  have hN3 := p2.1
  have x1s := x1.sp
  have hrv : ∀ V, VLs tm2 N2 V → V r = .neg (V t) := fun V hV => by
    rw [hV r hr.2.1, hr.2.2, (x1s.2.2.1 V hV) t t1]; rfl
  have hall : ∀ V, VLs tm' N3 V → VLs tm3 N3 V ∧ VLs tm1 N1 V ∧ V r = .neg (V t) ∧ V s = V r := by
    intro V hV
    obtain ⟨q1, q2⟩ := (hu.2 V).mp hV
    have q3 := p2.2.2.1 V q1
    exact ⟨q1, x1s.2.2.1 V q3, hrv V q3, q2⟩
  refine ⟨(p1.trans x1s).trans (p2.trans hu.1), by omega, hng, fun V hV => ?_, fun V hV hK => ?_, fun V lim τ hV hJ => ?_, ?_, .inr (.inr rfl)⟩
  · obtain ⟨q1, q2, q3, q4⟩ := hall V hV
    refine ⟨(fun z => by cases z), ?_⟩
    rw [if_pos rfl]
    have j2 := a2 V q1
    rw [q4] at j2
    exact ⟨V t, q3, a1 V q2, j2⟩
  · obtain ⟨q1, q2, q3, q4⟩ := hall V hV
    refine ⟨fun _ => hK r (.inr (.inr rfl)), ?_⟩
    rw [if_pos rfl]
    have j2 := b2 V q1 fun k hk => hK k (.inr (.inl hk))
    rw [q4] at j2
    exact ⟨V t, q3, b1 V q2 fun k hk => hK k (.inl hk), j2⟩
  · obtain ⟨hw, hJ⟩ := hJ
    rw [if_pos rfl] at hJ
    obtain ⟨α, rfl, j1, j2⟩ := hJ
    obtain ⟨V1, q1, q2, q3, q4⟩ := c1 V lim _ hV j1
    obtain ⟨V2, q5, q6, _⟩ := x1.val q1 (fun _ => α)
    have hV2r : V2 r = .neg α := by rw [hrv V2 q5, q6 t t1, q3]
    have j2' : J a lim (ga E V2) (.var 0) (.neg α) := by rw [hE.eq h0 fun k hk => (q6 k (by omega)).trans (q2 k hk)]; exact j2
    obtain ⟨V3, q8, q9, q10, q11⟩ := c2 V2 lim _ q5 j2'
    have hV3r : V3 r = .neg α := (q9 r hr.2.1).trans hV2r
    refine ⟨V3, (hu.2 V3).mpr ⟨q8, q10.trans hV3r.symm⟩, fun k hk => (q9 k (by omega)).trans ((q6 k (by omega)).trans (q2 k hk)), hV3r, fun hl k hk => ?_⟩
    rcases hk with hk | hk | hk
    · have := k1 k hk
      rw [q9 k (by omega), q6 k this]; exact q4 hl k hk
    · exact q11 hl k hk
    · rw [hk, hV3r]; exact hw hl
  · rintro k (hk | hk | hk)
    · have := k1 k hk; omega
    · exact k2 k hk
    · rw [hk]; omega
/-- a branch -/
theorem IFp.iff (hE : DP E) (h0 : WE tm N g E) (i1 : IFp e E tm N g tm1 N1 g1 t K1) (hu1 : UNI tm1 N1 g1 tm2 g2 t o) (ho : o < N) (hob : ∀ V, VLs tm N V → V o = .var 1) (i2 : IFp f E tm2 N1 g2 tm3 N3 g3 s K2) (i3 : IFp a E tm3 N3 g3 tm4 N4 g4 q K3) (hu2 : UNI tm4 N4 g4 tm' g' s q) : IFp (.sub e (.add f a)) E tm N g tm' N4 g' s (fun k => K1 k ∨ K2 k ∨ K3 k) := by
  obtain ⟨p1, t1, n1, a1, b1, c1, k1, kt1⟩ := i1
  obtain ⟨p2, t2, n2, a2, b2, c2, k2, kt2⟩ := i2
  obtain ⟨p3, t3, n3, a3, b3, c3, k3, kt3⟩ := i3
  have hN1 := p1.1
  have hN3 := p2.1
  have hN4 := p3.1
  have hall : ∀ V, VLs tm' N4 V → VLs tm4 N4 V ∧ VLs tm3 N3 V ∧ VLs tm1 N1 V ∧ V t = .var 1 ∧ V s = V q := by
    intro V hV
    obtain ⟨q1, q2⟩ := (hu2.2 V).mp hV
    have q3 := p3.2.2.1 V q1
    obtain ⟨q4, q5⟩ := (hu1.2 V).mp (p2.2.2.1 V q3)
    exact ⟨q1, q3, q4, q5.trans (hob V (p1.2.2.1 V q4)), q2⟩
  refine ⟨((p1.trans hu1.1).trans p2).trans (p3.trans hu2.1), by omega, hu2.1.2.2.2.1 s (by omega) (p3.2.2.2.1 s t2 n2), fun V hV => ?_, fun V hV hK => ?_, fun V lim τ hV hJ => ?_, ?_, .inr (.inl kt2)⟩
  · obtain ⟨q1, q2, q3, q4, q5⟩ := hall V hV
    have j1 := a1 V q3
    rw [q4] at j1
    have j3 := a3 V q1
    rw [← q5] at j3
    exact ⟨(fun z => by cases z), j1, a2 V q2, j3⟩
  · obtain ⟨q1, q2, q3, q4, q5⟩ := hall V hV
    have j1 := b1 V q3 fun k hk => hK k (.inl hk)
    rw [q4] at j1
    have j3 := b3 V q1 fun k hk => hK k (.inr (.inr hk))
    rw [← q5] at j3
    exact ⟨fun _ => hK s (.inr (.inl kt2)), j1, b2 V q2 fun k hk => hK k (.inr (.inl hk)), j3⟩
  · obtain ⟨hw, j1, j2, j3⟩ := hJ
    obtain ⟨V1, q1, q2, q3, q4⟩ := c1 V lim _ hV j1
    have q5 : VLs tm2 N1 V1 := (hu1.2 V1).mpr ⟨q1, by rw [q3, q2 o ho, hob V hV]⟩
    have j2' : J f lim (ga E V1) (.var 0) τ := by rw [hE.eq h0 q2]; exact j2
    obtain ⟨V2, r1, r2, r3, r4⟩ := c2 V1 lim _ q5 j2'
    have j3' : J a lim (ga E V2) (.var 0) τ := by rw [hE.eq h0 fun k hk => (r2 k (by omega)).trans (q2 k hk)]; exact j3
    obtain ⟨V3, s1, s2, s3, s4⟩ := c3 V2 lim _ r1 j3'
    have hs : V3 s = τ := (s2 s t2).trans r3
    refine ⟨V3, (hu2.2 V3).mpr ⟨s1, hs.trans s3.symm⟩, fun k hk => (s2 k (by omega)).trans ((r2 k (by omega)).trans (q2 k hk)), hs, fun hl k hk => ?_⟩
    rcases hk with hk | hk | hk
    · have := k1 k hk
      rw [s2 k (by omega), r2 k this]; exact q4 hl k hk
    · rw [s2 k (k2 k hk)]; exact r4 hl k hk
    · exact s4 hl k hk
  · rintro k (hk | hk | hk)
    · have := k1 k hk; omega
    · have := k2 k hk; omega
    · exact k3 k hk
end TLL
