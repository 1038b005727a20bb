/-! NAMES AND TYPES: what stays when types are found; names that stand for many types -/
set_option maxRecDepth 100000
/-- each variable in a cell's term is its own cell -/
def SF (tm : Nat → tE) (N : Nat) : Prop := ∀ c, c < N → ∀ x, ty_h x (tm c) → x < N ∧ tm x = .var (x + 3)
/-- no variable that stands for anything -/
def NG (tm : Nat → tE) (g : Nat → Prop) (c : Nat) : Prop := ∀ x, ty_h x (tm c) → ¬ g x
/-- an instance -/
def IN (tm : Nat → tE) (g : Nat → Prop) (V : Nat → tE) (a : Nat) (σ : tE) : Prop := ∃ W : Nat → tE, (∀ x, ty_h x (tm a) → ¬ g x → W x = V x) ∧ σ = ty_s W (tm a)
abbrev tS : Type := (Nat → tE) → tE → Prop
/-- names: the letter, the cell, and if it has many types which -/
abbrev tN : Type := List (Nat × Nat × Option tS)
def nS (V : Nat → tE) (z : Nat × Nat × Option tS) : tE → Prop := match z.2.2 with
  | none => fun τ => τ = V z.2.1
  | some S => S V
def ga (E : tN) (V : Nat → tE) : tV := E.map fun z => (z.1, nS V z)
/-- the sets of names depend on the cells of names with one type alone -/
def DP (E : tN) : Prop := ∀ V W : Nat → tE, (∀ z, z ∈ E → z.2.2 = none → V z.2.1 = W z.2.1) → ga E V = ga E W
def W1 (tm : Nat → tE) (N : Nat) (g : Nat → Prop) (z : Nat × Nat × Option tS) : Prop := z.2.1 < N ∧ (z.2.2 = none → NG tm g z.2.1) ∧ ∀ S, z.2.2 = some S → ∀ V, VLs tm N V → ∀ σ, S V σ ↔ IN tm g V z.2.1 σ
def WE (tm : Nat → tE) (N : Nat) (g : Nat → Prop) (E : tN) : Prop := ∀ z, z ∈ E → W1 tm N g z
/-- a step -/
def SP (tm : Nat → tE) (N : Nat) (g : Nat → Prop) (tm' : Nat → tE) (N' : Nat) (g' : Nat → Prop) : Prop := N ≤ N' ∧ SF tm' N' ∧ (∀ V, VLs tm' N' V → VLs tm N V) ∧ (∀ c, c < N → NG tm g c → NG tm' g' c) ∧ ∀ z, W1 tm N g z → W1 tm' N' g' z
section TE
variable {tm tm' tm'' : Nat → tE} {N N' N'' c x v t : Nat} {g g' g'' : Nat → Prop} {V W : Nat → tE} {E : tN} {u : tE} {z : Nat × Nat × Option tS}
theorem SP.refl (h : SF tm N) : SP tm N g tm N g := ⟨Nat.le_refl _, h, fun _ h => h, fun _ _ h => h, fun _ h => h⟩
theorem SP.trans (h : SP tm N g tm' N' g') (h' : SP tm' N' g' tm'' N'' g'') : SP tm N g tm'' N'' g'' := ⟨Nat.le_trans h.1 h'.1, h'.2.1, fun V z => h.2.2.1 V (h'.2.2.1 V z), fun c hc z => h'.2.2.2.1 c (Nat.lt_of_lt_of_le hc h.1) (h.2.2.2.1 c hc z), fun z hz => h'.2.2.2.2 z (h.2.2.2.2 z hz)⟩
theorem SP.we (h : SP tm N g tm' N' g') (hE : WE tm N g E) : WE tm' N' g' E := fun z hz => h.2.2.2.2 z (hE z hz)
theorem DP.eq (h : DP E) (hE : WE tm N g E) (hV : ∀ c, c < N → V c = W c) : ga E V = ga E W := h V W fun z hz _ => hV _ (hE z hz).1
theorem VLs.of (hs : SF tm N) : VLs tm N (fun c => ty_s V (tm c)) := by
  intro c hc
  show ty_s V (tm c) = ty_s _ (tm c)
  refine ty_s_c fun x hx => ?_
  rw [(hs c hc x hx).2, ty_s3]
/-- a new cell -/
theorem SP.new (hs : SF tm N) (hu : ∀ x, ty_h x u → (x < N ∧ tm x = .var (x + 3)) ∨ (x = N ∧ u = .var (N + 3))) : SP tm N g (upf tm N u) (N + 1) g := by
  have hk : ∀ c, c < N → upf tm N u c = tm c := fun c hc => upf_ne (by omega)
  refine ⟨by omega, ?_, fun V h => h.down.1, fun c hc h x hx => h x (by rw [hk c hc] at hx; exact hx), ?_⟩
  · intro c hc x hx
    by_cases hcN : c = N
    · rw [hcN, upf_eq] at hx
      rcases hu x hx with h | ⟨h1, h2⟩
      · exact ⟨by omega, by rw [hk x h.1]; exact h.2⟩
      · subst h1; exact ⟨by omega, by rw [upf_eq]; exact h2⟩
    · rw [upf_ne hcN] at hx
      have := hs c (by omega) x hx
      exact ⟨by omega, by rw [hk x this.1]; exact this.2⟩
  · rintro z ⟨h1, h2, h3⟩
    refine ⟨by omega, fun h x hx => h2 h x (by rw [hk _ h1] at hx; exact hx), fun S hS V hV σ => ?_⟩
    rw [h3 S hS V hV.down.1]
    unfold IN
    rw [hk _ h1]
/-- a variable stands for something from now on -/
theorem SP.bind (hs : SF tm N) (hv : v < N) (hv0 : tm v = .var (v + 3)) (ht : t < N) (ho : ¬ ty_h v (tm t)) (hg : ¬ g v) (hn : NG tm g t) : SP tm N g (fun c => ty_s (ty_1 v (tm t)) (tm c)) N g := by
  classical
  have hh : ∀ c x, ty_h x (ty_s (ty_1 v (tm t)) (tm c)) ↔ (ty_h v (tm c) ∧ ty_h x (tm t)) ∨ (ty_h x (tm c) ∧ ¬ x = v) := by
    intro c x
    rw [ty_h_s]
    constructor
    · rintro ⟨y, h1, h2⟩
      unfold ty_1 at h2
      split at h2
      · rename_i e; rw [e] at h1; exact .inl ⟨h1, h2⟩
      · rename_i e
        have e' : y + 3 = x + 3 := h2
        have e2 : y = x := by omega
        rw [e2] at h1 e; exact .inr ⟨h1, e⟩
    · rintro (⟨h1, h2⟩ | ⟨h1, h2⟩)
      · exact ⟨v, h1, by unfold ty_1; rw [if_pos rfl]; exact h2⟩
      · exact ⟨x, h1, by unfold ty_1; rw [if_neg h2]; rfl⟩
  refine ⟨Nat.le_refl _, ?_, fun V h => ((VLs.bind hv0 hv).mp h).1, ?_, ?_⟩
  · intro c hc x hx
    have hx' : x < N ∧ tm x = .var (x + 3) ∧ ¬ x = v := by
      rcases (hh c x).mp hx with ⟨_, h⟩ | ⟨h, h'⟩
      · exact ⟨(hs t ht x h).1, (hs t ht x h).2, fun z => ho (z ▸ h)⟩
      · exact ⟨(hs c hc x h).1, (hs c hc x h).2, h'⟩
    refine ⟨hx'.1, ?_⟩
    show ty_s _ (tm x) = _
    rw [hx'.2.1, ty_s3]
    unfold ty_1
    rw [if_neg hx'.2.2]
  · intro c hc h x hx
    rcases (hh c x).mp hx with ⟨_, h'⟩ | ⟨h', _⟩
    · exact hn x h'
    · exact h x h'
  · rintro z ⟨h1, h2, h3⟩
    refine ⟨h1, fun h x hx => ?_, fun S hS V hV σ => ?_⟩
    · rcases (hh _ x).mp hx with ⟨_, h'⟩ | ⟨h', _⟩
      · exact hn x h'
      · exact h2 h x h'
    · obtain ⟨hV1, hV2⟩ := (VLs.bind hv0 hv).mp hV
      rw [h3 S hS V hV1]
      constructor
      · rintro ⟨W, w1, w2⟩
        refine ⟨fun y => if g y then W y else V y, fun x _ hx => if_neg hx, ?_⟩
        show σ = ty_s _ (ty_s _ (tm z.2.1))
        rw [w2, ty_s_s]
        refine ty_s_c fun y hy => ?_
        unfold ty_1
        split
        · rename_i e
          subst e
          rw [w1 y hy hg, hV2]
          exact (ty_s_c fun x hx => (if_neg (hn x hx)).symm)
        · rw [ty_s3]
          split
          · rfl
          · rename_i hy'; exact w1 y hy hy'
      · rintro ⟨W, w1, w2⟩
        have w2 : σ = ty_s W (ty_s (ty_1 v (tm t)) (tm z.2.1)) := w2
        rw [ty_s_s] at w2
        refine ⟨_, fun y hy hy' => ?_, w2⟩
        unfold ty_1
        split
        · rename_i e
          subst e
          rw [hV2]
          exact ty_s_c fun x hx => w1 x ((hh _ x).mpr (.inl ⟨hy, hx⟩)) (hn x hx)
        · rename_i e
          rw [ty_s3]
          exact w1 y ((hh _ y).mpr (.inr ⟨hy, e⟩)) hy'
def ty_big : Nat → tE
  | 0 => .var 0
  | k + 1 => .neg (ty_big k)
theorem ty_big_w : ∀ k, k < ty_w (ty_big k) := by
  intro k
  induction k with
  | zero => exact Nat.one_pos
  | succ k ih => simp only [ty_big, ty_w]; omega
/-- variables of a type stand for anything from now on -/
theorem SP.gen {P : (Nat → tE) → tE → Prop} {n : Nat → Prop} (hsp : SP tm N g tm' N' g') (ht : t < N') (hng : NG tm' g' t) (hE : WE tm N g E)
    (hP : ∀ V W : Nat → tE, (∀ z, z ∈ E → z.2.2 = none → V z.2.1 = W z.2.1) → P V = P W)
    (h1 : ∀ V, VLs tm' N' V → P V (V t))
    (h2 : ∀ V, VLs tm N V → ∀ σ, P V σ → ∃ V', VLs tm' N' V' ∧ (∀ c, c < N → V' c = V c) ∧ V' t = σ)
    (hA : ∀ x, n x → ty_h x (tm' t))
    (hB : ∀ x, ty_h x (tm' t) → ¬ n x → ∀ V V', VLs tm' N' V → VLs tm' N' V' → (∀ c, c < N → V' c = V c) → V' x = V x)
    (hC : ∀ x, n x → ∀ z, z ∈ E → z.2.2 = none → ¬ ty_h x (tm' z.2.1)) :
    SP tm N g tm' N' (fun x => g' x ∨ n x) ∧ (∀ x, n x → ∀ c, c < N → ¬ ty_h x (tm' c)) ∧ ∀ V, VLs tm' N' V → ∀ σ, P V σ ↔ IN tm' (fun x => g' x ∨ n x) V t σ := by
  classical
  have hs := hsp.2.1
  have mix : ∀ (V W : Nat → tE), VLs tm' N' V → ∃ U, VLs tm' N' U ∧ P U = P V ∧ (∀ c, c < N' → U c = ty_s (fun x => if n x then W x else V x) (tm' c)) := by
    intro V W hV
    refine ⟨_, VLs.of hs, ?_, fun c hc => rfl⟩
    refine hP _ _ fun z hz hz' => ?_
    have hz1 : z.2.1 < N' := Nat.lt_of_lt_of_le (hE z hz).1 hsp.1
    rw [hV _ hz1]
    refine ty_s_c fun x hx => if_neg fun hn => hC x hn z hz hz' hx
  have hi : ∀ x, n x → ∀ c, c < N → ¬ ty_h x (tm' c) := by
    intro x hn c hc hx
    have hcN : c < N' := Nat.lt_of_lt_of_le hc hsp.1
    have hV : VLs tm' N' (fun c => ty_s (fun _ => .var 0) (tm' c)) := VLs.of hs
    obtain ⟨U, u1, u2, u3⟩ := mix _ (fun _ => ty_big (ty_w (ty_s (fun _ => .var 0) (tm' c)))) hV
    have hp := h1 U u1
    rw [u2] at hp
    obtain ⟨V', v1, v2, v3⟩ := h2 _ (hsp.2.2.1 _ hV) _ hp
    have e1 : V' x = ty_big (ty_w (ty_s (fun _ => .var 0) (tm' c))) := by
      rw [v1 t ht, u3 t ht] at v3
      have := ty_s_i v3 x (hA x hn)
      rw [this]
      exact if_pos hn
    have e2 := v2 c hc
    have e3 := ty_w_h (V := V') hx
    rw [← v1 c hcN, e2, e1] at e3
    have := ty_big_w (ty_w (ty_s (fun _ => .var 0) (tm' c)))
    omega
  refine ⟨⟨hsp.1, hs, hsp.2.2.1, ?_, ?_⟩, hi, ?_⟩
  · intro c hc h x hx hg
    rcases hg with hg | hg
    · exact hsp.2.2.2.1 c hc h x hx hg
    · exact hi x hg c hc hx
  · intro z hz
    obtain ⟨w1, w2, w3⟩ := hsp.2.2.2.2 z hz
    have hzN := hz.1
    refine ⟨w1, fun h x hx hg => ?_, fun S hS V hV σ => ?_⟩
    · rcases hg with hg | hg
      · exact w2 h x hx hg
      · exact hi x hg _ hzN hx
    · rw [w3 S hS V hV]
      constructor
      · rintro ⟨W, a1, a2⟩; exact ⟨W, fun x hx hg => a1 x hx fun z => hg (.inl z), a2⟩
      · rintro ⟨W, a1, a2⟩
        refine ⟨W, fun x hx hg => a1 x hx ?_, a2⟩
        rintro (h | h)
        · exact hg h
        · exact hi x h _ hzN hx
  · intro V hV σ
    constructor
    · intro hp
      obtain ⟨V', v1, v2, v3⟩ := h2 V (hsp.2.2.1 _ hV) σ hp
      refine ⟨V', fun x hx hg => hB x hx (fun z => hg (.inr z)) V V' hV v1 v2, ?_⟩
      rw [← v3]; exact v1 t ht
    · rintro ⟨W, a1, a2⟩
      obtain ⟨U, u1, u2, u3⟩ := mix V W hV
      have hp := h1 U u1
      rw [u2, u3 t ht] at hp
      rw [a2]
      have e : ty_s W (tm' t) = ty_s (fun x => if n x then W x else V x) (tm' t) := by
        refine ty_s_c fun x hx => ?_
        split
        · rfl
        · rename_i hn
          refine a1 x hx ?_
          rintro (h | h)
          · exact hng x hx h
          · exact hn h
      rw [e]
      exact hp
end TE
