/-! TYPES FOUND, in plain form: names for something -/
set_option maxRecDepth 100000
section TMM
variable {tm tm1 tm2 tm3 tm4 tm' : Nat → tE} {N N1 N2 N3 N4 N' : Nat} {g g1 g2 g3 g4 g' n : Nat → Prop} {E : tN} {w i e' : tE} {t s u r c x : Nat} {K K1 K2 : Nat → Prop} {V : Nat → tE} {PW : Bool → (Nat → tE) → tE → Prop}
/-- the names' sets with one more that has many types -/
theorem DP.many (hE : DP E) {S : tS} (hS : ∀ V W, ga E V = ga E W → S V = S W) : DP ((c, x, some S) :: E) := by
  intro V W h
  have h1 : ga E V = ga E W := hE V W fun z hz => h z (List.mem_cons_of_mem _ hz)
  show (c, S V) :: ga E V = (c, S W) :: ga E W
  rw [h1, hS V W h1]
theorem DP.one (hE : DP E) : DP ((c, x, none) :: E) := by
  intro V W h
  have h1 : ga E V = ga E W := hE V W fun z hz => h z (List.mem_cons_of_mem _ hz)
  have h2 : V x = W x := h (c, x, none) (List.mem_cons_self ..) rfl
  show (c, fun τ => τ = V x) :: ga E V = (c, fun τ => τ = W x) :: ga E W
  rw [h1, h2]
/-- what a name stands for was found; its variables stand for anything -/
theorem bnd_we (hE : DP E) (h0 : WE tm N g E) (hPW : ∀ V W, ga E V = ga E W → PW false V = PW false W) (hsp : SP tm N g tm3 N3 g3) (hx : x < N3) (hng : NG tm3 g3 x)
    (h1 : ∀ V, VLs tm3 N3 V → PW false V (V x))
    (h2 : ∀ V lim σ, VLs tm N V → PW lim V σ → ∃ V', VLs tm3 N3 V' ∧ (∀ c, c < N → V' c = V c) ∧ V' x = σ ∧ (lim = true → ∀ c, K1 c → ty_w (V' c) ≤ 80))
    (hA : ∀ u, n u → ty_h u (tm3 x))
    (hB : ∀ u, ty_h u (tm3 x) → ¬ n u → ∀ V V', VLs tm3 N3 V → VLs tm3 N3 V' → (∀ c, c < N → V' c = V c) → V' u = V u)
    (hC : ∀ u, n u → ∀ z, z ∈ E → z.2.2 = none → ¬ ty_h u (tm3 z.2.1)) :
    SP tm N g tm3 N3 (fun u => g3 u ∨ n u) ∧ WE tm3 N3 (fun u => g3 u ∨ n u) ((c, x, some (PW false)) :: E) := by
  obtain ⟨k1, k2, k3⟩ := SP.gen (P := PW false) hsp hx hng h0 (fun V W h => hPW V W (hE V W h)) h1 (fun V hV σ hσ => by
    obtain ⟨V', q1, q2, q3, _⟩ := h2 V false σ hV hσ
    exact ⟨V', q1, q2, q3⟩) hA hB hC
  refine ⟨k1, fun z hz => ?_⟩
  rcases List.mem_cons.mp hz with rfl | hz
  · exact ⟨hx, (fun h => by cases h), fun S hS V hV σ => by cases hS; exact k3 V hV σ⟩
  · exact k1.we h0 z hz
theorem IFp.bnd (hE : DP E) (h0 : WE tm N g E) (hPW : ∀ lim V W, ga E V = ga E W → PW lim V = PW lim W)
    (hJ : ∀ lim V τ, J e' lim (ga E V) (.var 0) τ ↔ (lim = true → ty_w τ ≤ 80) ∧ (∃ σ, PW lim V σ) ∧ J i lim ((c, PW false V) :: ga E V) (.var 0) τ)
    (hsp : SP tm N g tm3 N3 g3)
    (h1 : ∀ V, VLs tm3 N3 V → PW false V (V x)) (h1' : ∀ V, VLs tm3 N3 V → (∀ c, K1 c → ty_w (V c) ≤ 80) → PW true V (V x))
    (h2 : ∀ V lim σ, VLs tm N V → PW lim V σ → ∃ V', VLs tm3 N3 V' ∧ (∀ c, c < N → V' c = V c) ∧ V' x = σ ∧ (lim = true → ∀ c, K1 c → ty_w (V' c) ≤ 80))
    (hK1 : ∀ c, K1 c → c < N3)
    (i2 : IFp i ((c, x, some (PW false)) :: E) tm3 N3 g3 tm4 N4 g4 s K2) : IFp e' E tm N g tm4 N4 g4 s (fun k => K1 k ∨ K2 k) := by
  obtain ⟨p2, t2, n2, a2, b2, c2, k2, kt2⟩ := i2
  have hN := hsp.1
  have hN4 := p2.1
  refine ⟨hsp.trans p2, t2, n2, fun V hV => ?_, fun V hV hK => ?_, fun V lim τ hV hj => ?_, ?_, .inr kt2⟩
  · have q := p2.2.2.1 V hV
    exact (hJ _ _ _).mpr ⟨(fun z => by cases z), ⟨V x, h1 V q⟩, a2 V hV⟩
  · have q := p2.2.2.1 V hV
    exact (hJ _ _ _).mpr ⟨fun _ => hK s (.inr kt2), ⟨V x, h1' V q fun k hk => hK k (.inl hk)⟩, b2 V hV fun k hk => hK k (.inr hk)⟩
  · obtain ⟨hw, ⟨σ, hσ⟩, j2⟩ := (hJ _ _ _).mp hj
    obtain ⟨V1, q1, q2, q3, q4⟩ := h2 V lim σ hV hσ
    have e1 : ga E V1 = ga E V := hE.eq h0 q2
    have j2' : J i lim (ga ((c, x, some (PW false)) :: E) V1) (.var 0) τ := by
      show J i lim ((c, PW false V1) :: ga E V1) (.var 0) τ
      rw [e1, hPW false V1 V e1]
      exact j2
    obtain ⟨V2, r1, r2, r3, r4⟩ := c2 V1 lim τ q1 j2'
    refine ⟨V2, r1, fun k hk => (r2 k (by omega)).trans (q2 k hk), r3, fun hl k hk => ?_⟩
    rcases hk with hk | hk
    · rw [r2 k (hK1 k hk)]; exact q4 hl k hk
    · exact r4 hl k hk
  · rintro k (hk | hk)
    · have := hK1 k hk; omega
    · exact k2 k hk
theorem IFn.bnd (hE : DP E) (h0 : WE tm N g E) (hPW : ∀ lim V W, ga E V = ga E W → PW lim V = PW lim W)
    (hJ : ∀ lim V τ, J e' lim (ga E V) (.var 0) τ ↔ (lim = true → ty_w τ ≤ 80) ∧ (∃ σ, PW lim V σ) ∧ J i lim ((c, PW false V) :: ga E V) (.var 0) τ)
    (h2 : ∀ V lim σ, VLs tm N V → PW lim V σ → ∃ V', VLs tm3 N3 V' ∧ (∀ c, c < N → V' c = V c) ∧ V' x = σ ∧ (lim = true → ∀ c, K1 c → ty_w (V' c) ≤ 80))
    (i2 : IFn i ((c, x, some (PW false)) :: E) tm3 N3) : IFn e' E tm N := by
  intro V τ hV hj
  obtain ⟨hw, ⟨σ, hσ⟩, j2⟩ := (hJ _ _ _).mp hj
  obtain ⟨V1, q1, q2, q3, q4⟩ := h2 V true σ hV hσ
  have e1 : ga E V1 = ga E V := hE.eq h0 q2
  refine i2 V1 τ q1 ?_
  show J i true ((c, PW false V1) :: ga E V1) (.var 0) τ
  rw [e1, hPW false V1 V e1]
  exact j2
end TMM
