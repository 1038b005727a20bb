/-! TYPES as terms: var 0, 1, 2 are i, b, r; var (x + 3) the variable x; neg a list; add a function -/
set_option maxRecDepth 100000
/-- how many characters -/
def ty_w : tE → Nat
  | .neg a => ty_w a + 2
  | .add a b => ty_w a + ty_w b + 3
  | _ => 1
/-- variables stand for terms -/
def ty_k (V : Nat → tE) (k : Nat) : tE := if k < 3 then .var k else V (k - 3)
def ty_s (V : Nat → tE) : tE → tE
  | .var k => ty_k V k
  | .neg a => .neg (ty_s V a)
  | .add a b => .add (ty_s V a) (ty_s V b)
  | t => t
def ty_e (x k : Nat) : Prop := k = x + 3
/-- a variable stands in a term -/
def ty_h (x : Nat) : tE → Prop
  | .var k => ty_e x k
  | .neg a => ty_h x a
  | .add a b => ty_h x a ∨ ty_h x b
  | _ => False
def ty_1 (x : Nat) (t : tE) (y : Nat) : tE := if y = x then t else .var (y + 3)
section TY
variable {V W U : Nat → tE} {t u : tE} {x y c N k : Nat}
theorem ty_w1 : 1 ≤ ty_w t := by
  induction t <;> simp only [ty_w] <;> omega
theorem ty_k3 : ty_k V (x + 3) = V x := by unfold ty_k; rw [if_neg (by omega)]; rfl
theorem ty_s3 : ty_s V (.var (x + 3)) = V x := ty_k3
theorem ty_s_id : ty_s (fun x => .var (x + 3)) t = t := by
  induction t with
  | var k =>
    show ty_k _ _ = _
    unfold ty_k
    split
    · rfl
    · rename_i h
      have e : ∀ j : Nat, ¬ j < 3 → j - 3 + 3 = j := fun j h => by omega
      exact congrArg Lean.Grind.CommRing.Expr.var (e k h)
  | neg a ih => show Lean.Grind.CommRing.Expr.neg _ = _; rw [ih]
  | add a b ih1 ih2 => show Lean.Grind.CommRing.Expr.add _ _ = _; rw [ih1, ih2]
  | _ => rfl
theorem ty_s_s : ty_s V (ty_s U t) = ty_s (fun x => ty_s V (U x)) t := by
  induction t with
  | var k =>
    show ty_s V (ty_k U k) = ty_k _ k
    unfold ty_k
    split
    · rename_i h; show ty_k V k = _; unfold ty_k; rw [if_pos h]
    · rfl
  | neg a ih => show Lean.Grind.CommRing.Expr.neg _ = Lean.Grind.CommRing.Expr.neg _; rw [ih]
  | add a b ih1 ih2 => show Lean.Grind.CommRing.Expr.add _ _ = Lean.Grind.CommRing.Expr.add _ _; rw [ih1, ih2]
  | _ => rfl
theorem ty_s_c (h : ∀ x, ty_h x t → V x = W x) : ty_s V t = ty_s W t := by
  induction t with
  | var k =>
    show ty_k V k = ty_k W k
    unfold ty_k
    split
    · rfl
    · rename_i hk
      have e : ∀ j : Nat, ¬ j < 3 → ty_e (j - 3) j := fun j h => by unfold ty_e; omega
      exact h _ (e k hk)
  | neg a ih => show Lean.Grind.CommRing.Expr.neg _ = Lean.Grind.CommRing.Expr.neg _; rw [ih h]
  | add a b ih1 ih2 => show Lean.Grind.CommRing.Expr.add _ _ = Lean.Grind.CommRing.Expr.add _ _; rw [ih1 fun x z => h x (.inl z), ih2 fun x z => h x (.inr z)]
  | _ => rfl
theorem ty_s_i (h : ty_s V t = ty_s W t) : ∀ x, ty_h x t → V x = W x := by
  induction t with
  | var k =>
    intro x hx
    have e : k = x + 3 := hx
    rw [e, ty_s3, ty_s3] at h
    exact h
  | neg a ih => exact ih (Lean.Grind.CommRing.Expr.neg.inj h)
  | add a b ih1 ih2 =>
    rintro x (hx | hx)
    · exact ih1 (Lean.Grind.CommRing.Expr.add.inj h).1 x hx
    · exact ih2 (Lean.Grind.CommRing.Expr.add.inj h).2 x hx
  | _ => intro x hx; exact hx.elim
theorem ty_w_s : ty_w t ≤ ty_w (ty_s V t) := by
  induction t with
  | var k => exact ty_w1
  | neg a ih => simp only [ty_s, ty_w]; omega
  | add a b ih1 ih2 => simp only [ty_s, ty_w]; omega
  | _ => exact Nat.le_refl _
theorem ty_w_h (h : ty_h x t) : ty_w (V x) ≤ ty_w (ty_s V t) := by
  induction t with
  | var k =>
    have e : k = x + 3 := h
    rw [e, ty_s3]
    exact Nat.le_refl _
  | neg a ih => simp only [ty_s, ty_w]; have := ih h; omega
  | add a b ih1 ih2 =>
    simp only [ty_s, ty_w]
    rcases h with h | h
    · have := ih1 h; omega
    · have := ih2 h; omega
  | _ => exact h.elim
theorem ty_w_lt (h : ty_h x t) (hx : t ≠ .var (x + 3)) : ty_w (V x) < ty_w (ty_s V t) := by
  cases t with
  | var k => exact absurd (congrArg Lean.Grind.CommRing.Expr.var h) hx
  | neg a => simp only [ty_s, ty_w]; have := ty_w_h (V := V) (x := x) (t := a) h; omega
  | add a b =>
    simp only [ty_s, ty_w]
    rcases h with h | h
    · have := ty_w_h (V := V) (x := x) (t := a) h; omega
    · have := ty_w_h (V := V) (x := x) (t := b) h; omega
  | _ => exact h.elim
theorem ty_h_s : ty_h y (ty_s U t) ↔ ∃ x, ty_h x t ∧ ty_h y (U x) := by
  induction t with
  | var k =>
    show ty_h y (ty_k U k) ↔ ∃ x, ty_e x k ∧ _
    unfold ty_k
    split
    · rename_i h
      have e : ∀ j x : Nat, j < 3 → ¬ ty_e x j := fun j x h => by unfold ty_e; omega
      exact ⟨fun z => absurd z (e k y h), fun ⟨x, z, _⟩ => absurd z (e k x h)⟩
    · rename_i h
      have e : ∀ j : Nat, ¬ j < 3 → ty_e (j - 3) j := fun j h => by unfold ty_e; omega
      constructor
      · intro z; exact ⟨k - 3, e k h, z⟩
      · rintro ⟨x, z, z2⟩
        have e : k = x + 3 := z
        subst e
        exact z2
  | neg a ih => exact ih
  | add a b ih1 ih2 =>
    simp only [ty_s, ty_h]
    rw [ih1, ih2]
    constructor
    · rintro (⟨x, a, b⟩ | ⟨x, a, b⟩)
      · exact ⟨x, .inl a, b⟩
      · exact ⟨x, .inr a, b⟩
    · rintro ⟨x, a | a, b⟩
      · exact .inl ⟨x, a, b⟩
      · exact .inr ⟨x, a, b⟩
  | _ => exact ⟨fun h => h.elim, fun ⟨_, h, _⟩ => h.elim⟩
/-- the cells' terms; a valuation that keeps them -/
def VLs (tm : Nat → tE) (N : Nat) (V : Nat → tE) : Prop := ∀ c, c < N → V c = ty_s V (tm c)
theorem VLs.bind {tm : Nat → tE} (hx : tm x = .var (x + 3)) (hN : x < N) : VLs (fun c => ty_s (ty_1 x t) (tm c)) N V ↔ VLs tm N V ∧ V x = ty_s V t := by
  have key : V x = ty_s V t → ∀ u : tE, ty_s V (ty_s (ty_1 x t) u) = ty_s V u := by
    intro h u
    rw [ty_s_s]
    refine ty_s_c fun y _ => ?_
    unfold ty_1
    split
    · rename_i z; rw [z, h]
    · exact ty_s3
  constructor
  · intro h
    have h1 : V x = ty_s V t := by
      have := h x hN
      dsimp only at this
      rw [hx, ty_s3] at this
      unfold ty_1 at this
      rw [if_pos rfl] at this
      exact this
    exact ⟨fun c hc => by rw [h c hc]; exact key h1 _, h1⟩
  · rintro ⟨h, h1⟩ c hc
    dsimp only
    rw [key h1]
    exact h c hc
theorem VLs.le {tm : Nat → tE} {M : Nat} (h : VLs tm N V) (hM : M ≤ N) : VLs tm M V := fun c hc => h c (by omega)
end TY
