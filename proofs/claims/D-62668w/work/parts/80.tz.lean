/-! WHICH TYPES an expression has: a name has a set of types; lim: no type of a part is wider than 80 -/
set_option maxRecDepth 100000
def JP (lim : Bool) : tE → tE → List (Nat × tE) → Prop
  | .var c, t, B => (lim = true → ty_w t ≤ 80) ∧ B = (if (c : Nat) = 0 then [] else [(c, t)])
  | .pow (.natCast _) k, t, B => (lim = true → ty_w t ≤ 80) ∧ (if k = 2 then t = .var 0 else if k = 3 then t = .var 1 else ∃ a, t = .neg a) ∧ B = []
  | .mul q r, t, B => (lim = true → ty_w t ≤ 80) ∧ ∃ a X Y, t = .neg a ∧ JP lim q a X ∧ JP lim r t Y ∧ B = X ++ Y
  | _, _, _ => False
abbrev tV : Type := List (Nat × (tE → Prop))
def jx (B : List (Nat × tE)) (Γ : tV) : tV := (B.reverse.map fun z => (z.1, fun τ => τ = z.2)) ++ Γ
def opT (o : Nat) : tE := if 128 < o ∨ o = 126 then .var 2 else .var 0
def opR (o : Nat) : tE := if o % 128 = 60 ∨ o = 61 then .var 1 else opT o
/-- the third argument: of clauses, the type of what is looked at -/
def J : tE → Bool → tV → tE → tE → Prop
  | .pow (.natCast v) k, lim, _, _, τ => (lim = true → ty_w τ ≤ 80) ∧ (if k = 0 then τ = .var 0 else if k = 1 then τ = .var 1 else if k = 2 then τ = .var 2 else if k = 3 then (∃ a, τ = .neg a) else if v = 82 then τ = .add (.var 0) (.var 2) else τ = .add (.var 2) (.var 0))
  | .var c, lim, Γ, _, τ => (lim = true → ty_w τ ≤ 80) ∧ ∃ S, Γ.lookup c = some S ∧ S τ
  | .pow (.neg b) c, lim, Γ, _, τ => (lim = true → ty_w τ ≤ 80) ∧ ∃ a t, τ = .add a t ∧ J b lim ((c, fun x => x = a) :: Γ) (.var 0) t
  | .mul f a, lim, Γ, _, τ => (lim = true → ty_w τ ≤ 80) ∧ ∃ s, J f lim Γ (.var 0) (.add s τ) ∧ J a lim Γ (.var 0) s
  | .pow (.add l r) o, lim, Γ, _, τ => (lim = true → ty_w τ ≤ 80) ∧ (if o = 44 then ∃ a, τ = .neg a ∧ J l lim Γ (.var 0) a ∧ J r lim Γ (.var 0) τ else J l lim Γ (.var 0) (opT o) ∧ J r lim Γ (.var 0) (opT o) ∧ τ = opR o)
  | .neg r, lim, Γ, _, τ => (lim = true → ty_w τ ≤ 80) ∧ J r lim Γ (.var 0) (.var 2) ∧ τ = .var 2
  | .sub t (.add y z), lim, Γ, _, τ => (lim = true → ty_w τ ≤ 80) ∧ J t lim Γ (.var 0) (.var 1) ∧ J y lim Γ (.var 0) τ ∧ J z lim Γ (.var 0) τ
  | .pow (.sub w i) c, lim, Γ, _, τ => (lim = true → ty_w τ ≤ 80) ∧ (∃ σ, J w lim Γ (.var 0) σ) ∧ J i lim ((c, fun σ => J w false Γ (.var 0) σ) :: Γ) (.var 0) τ
  | .pow (.mul w i) c, lim, Γ, _, τ => (lim = true → ty_w τ ≤ 80) ∧ (∃ σ, J w lim ((c, fun x => x = σ) :: Γ) (.var 0) σ) ∧ J i lim ((c, fun σ => J w false ((c, fun x => x = σ) :: Γ) (.var 0) σ) :: Γ) (.var 0) τ
  | .add w cl, lim, Γ, _, τ => (lim = true → ty_w τ ≤ 80) ∧ ∃ s, J w lim Γ (.var 0) s ∧ J cl lim Γ s τ
  | .sub q (.sub e r), lim, Γ, s, τ => (∃ B, JP lim q s B ∧ J e lim (jx B Γ) (.var 0) τ) ∧ J r lim Γ s τ
  | .natCast _, _, _, _, _ => True
  | _, _, _, _, _ => False
theorem JP.weak {q t : tE} {B : List (Nat × tE)} {lim : Bool} : JP lim q t B → JP false q t B := by
  induction q generalizing t B with
  | var c => exact fun h => ⟨(fun z => by cases z), h.2⟩
  | pow a k ih =>
    cases a with
    | natCast v => exact fun h => ⟨(fun z => by cases z), h.2⟩
    | _ => exact fun h => h.elim
  | mul q r ih1 ih2 => exact fun ⟨_, a, X, Y, h1, h2, h3, h4⟩ => ⟨(fun z => by cases z), a, X, Y, h1, ih1 h2, ih2 h3, h4⟩
  | _ => exact fun h => h.elim
theorem J.weak {lim : Bool} : ∀ (e : tE) (Γ : tV) (s τ : tE), J e lim Γ s τ → J e false Γ s τ := by
  intro e
  induction e using rl.induct with
  | case1 => intro Γ s τ h; exact ⟨(fun z => by cases z), h.2⟩
  | case2 => intro Γ s τ h; exact ⟨(fun z => by cases z), h.2⟩
  | case3 b c ih => exact fun Γ s τ ⟨_, a, t, h1, h2⟩ => ⟨(fun z => by cases z), a, t, h1, ih _ _ _ h2⟩
  | case4 f a ih1 ih2 => exact fun Γ s τ ⟨_, x, h1, h2⟩ => ⟨(fun z => by cases z), x, ih1 _ _ _ h1, ih2 _ _ _ h2⟩
  | case5 l r o ih1 ih2 =>
    intro Γ s τ ⟨_, h⟩
    refine ⟨(fun z => by cases z), ?_⟩
    split
    · rename_i ho; rw [if_pos ho] at h; obtain ⟨a, h1, h2, h3⟩ := h; exact ⟨a, h1, ih1 _ _ _ h2, ih2 _ _ _ h3⟩
    · rename_i ho; rw [if_neg ho] at h; exact ⟨ih1 _ _ _ h.1, ih2 _ _ _ h.2.1, h.2.2⟩
  | case6 r ih => exact fun Γ s τ ⟨_, h1, h2⟩ => ⟨(fun z => by cases z), ih _ _ _ h1, h2⟩
  | case7 t y z ih1 ih2 ih3 => exact fun Γ s τ ⟨_, h1, h2, h3⟩ => ⟨(fun z => by cases z), ih1 _ _ _ h1, ih2 _ _ _ h2, ih3 _ _ _ h3⟩
  | case8 w i c ih1 ih2 => exact fun Γ s τ ⟨_, ⟨σ, h1⟩, h2⟩ => ⟨(fun z => by cases z), ⟨σ, ih1 _ _ _ h1⟩, ih2 _ _ _ h2⟩
  | case9 w i c ih1 ih2 => exact fun Γ s τ ⟨_, ⟨σ, h1⟩, h2⟩ => ⟨(fun z => by cases z), ⟨σ, ih1 _ _ _ h1⟩, ih2 _ _ _ h2⟩
  | case10 w cl ih1 ih2 => exact fun Γ s τ ⟨_, x, h1, h2⟩ => ⟨(fun z => by cases z), x, ih1 _ _ _ h1, ih2 _ _ _ h2⟩
  | case11 q e r ih1 ih2 => exact fun Γ s τ ⟨⟨B, h1, h2⟩, h3⟩ => ⟨⟨B, h1.weak, ih1 _ _ _ h2⟩, ih2 _ _ _ h3⟩
  | case12 => exact fun Γ s τ _ => trivial
  | case13 e h1 h2 h3 h4 h5 h6 h7 h8 h9 h10 h11 h12 =>
    intro Γ s τ h
    unfold J at h
    split at h <;> simp_all
