/-! A GRAPH of types: node (0 free variable, 1 2 3 i b r, 4 list, 5 function, 6 variable that stands for something), the term of a cell, a rank of variables' chains -/
set_option maxRecDepth 100000
abbrev tG : Type := Nat → Nat × Nat × Nat
def tn (tm : Nat → tE) (ρ : Nat → Nat) (N c : Nat) (z : Nat × Nat × Nat) : Prop := z.1 ≤ 6 ∧ (z.1 = 0 → tm c = .var (c + 3)) ∧ (z.1 = 1 → tm c = .var 0) ∧ (z.1 = 2 → tm c = .var 1) ∧ (z.1 = 3 → tm c = .var 2) ∧ (z.1 = 4 → z.2.1 < N ∧ tm c = .neg (tm z.2.1)) ∧ (z.1 = 5 → z.2.1 < N ∧ z.2.2 < N ∧ tm c = .add (tm z.2.1) (tm z.2.2)) ∧ (z.1 = 6 → z.2.1 < N ∧ tm c = tm z.2.1 ∧ ρ z.2.1 < ρ c)
def TG (G : tG) (N : Nat) (tm : Nat → tE) (ρ : Nat → Nat) : Prop := ∀ c, c < N → tn tm ρ N c (G c)
def upf {α : Type} (f : Nat → α) (x : Nat) (v : α) (y : Nat) : α := if y = x then v else f y
section TG
variable {G : tG} {N c a b x y v t k : Nat} {tm : Nat → tE} {ρ : Nat → Nat} {V : Nat → tE}
theorem upf_eq {α : Type} {f : Nat → α} {v : α} : upf f x v x = v := if_pos rfl
theorem upf_ne {α : Type} {f : Nat → α} {v : α} (h : ¬ y = x) : upf f x v y = f y := if_neg h
/-- a variable in a cell's term is a free cell -/
theorem TG.free (h : TG G N tm ρ) : ∀ (k j c : Nat), ty_w (tm c) ≤ k → ρ c ≤ j → c < N → ∀ x, ty_h x (tm c) → x < N ∧ (G x).1 = 0 := by
  intro k
  induction k with
  | zero => intro j c hk; have := ty_w1 (t := tm c); omega
  | succ k ihk =>
    intro j
    induction j with
    | zero =>
      intro c hk hj hc x hx
      obtain ⟨h6, h0, h1, h2, h3, h4, h5, h7⟩ := h c hc
      have hz : (G c).1 = 0 ∨ (G c).1 = 1 ∨ (G c).1 = 2 ∨ (G c).1 = 3 ∨ (G c).1 = 4 ∨ (G c).1 = 5 ∨ (G c).1 = 6 := by omega
      rcases hz with z | z | z | z | z | z | z
      · rw [h0 z] at hx
        have e : c + 3 = x + 3 := hx
        have e' : c = x := by omega
        subst e'; exact ⟨hc, z⟩
      · rw [h1 z] at hx; have e : 0 = x + 3 := hx; omega
      · rw [h2 z] at hx; have e : 1 = x + 3 := hx; omega
      · rw [h3 z] at hx; have e : 2 = x + 3 := hx; omega
      · obtain ⟨a1, a2⟩ := h4 z
        rw [a2] at hx hk
        simp only [ty_w] at hk
        exact ihk _ _ (by omega) (Nat.le_refl _) a1 x hx
      · obtain ⟨a1, a2, a3⟩ := h5 z
        rw [a3] at hx hk
        simp only [ty_w] at hk
        rcases hx with hx | hx
        · exact ihk _ _ (by omega) (Nat.le_refl _) a1 x hx
        · exact ihk _ _ (by omega) (Nat.le_refl _) a2 x hx
      · obtain ⟨a1, a2, a3⟩ := h7 z
        omega
    | succ j ihj =>
      intro c hk hj hc x hx
      obtain ⟨h6, h0, h1, h2, h3, h4, h5, h7⟩ := h c hc
      have hz : (G c).1 = 0 ∨ (G c).1 = 1 ∨ (G c).1 = 2 ∨ (G c).1 = 3 ∨ (G c).1 = 4 ∨ (G c).1 = 5 ∨ (G c).1 = 6 := by omega
      rcases hz with z | z | z | z | z | z | z
      · rw [h0 z] at hx
        have e : c + 3 = x + 3 := hx
        have e' : c = x := by omega
        subst e'; exact ⟨hc, z⟩
      · rw [h1 z] at hx; have e : 0 = x + 3 := hx; omega
      · rw [h2 z] at hx; have e : 1 = x + 3 := hx; omega
      · rw [h3 z] at hx; have e : 2 = x + 3 := hx; omega
      · obtain ⟨a1, a2⟩ := h4 z
        rw [a2] at hx hk
        simp only [ty_w] at hk
        exact ihk _ _ (by omega) (Nat.le_refl _) a1 x hx
      · obtain ⟨a1, a2, a3⟩ := h5 z
        rw [a3] at hx hk
        simp only [ty_w] at hk
        rcases hx with hx | hx
        · exact ihk _ _ (by omega) (Nat.le_refl _) a1 x hx
        · exact ihk _ _ (by omega) (Nat.le_refl _) a2 x hx
      · obtain ⟨a1, a2, a3⟩ := h7 z
        rw [a2] at hx hk
        exact ihj _ hk (by omega) a1 x hx
theorem TG.var (h : TG G N tm ρ) (hc : c < N) (hx : ty_h x (tm c)) : x < N ∧ (G x).1 = 0 ∧ tm x = .var (x + 3) := by
  have h1 := h.free _ _ c (Nat.le_refl _) (Nat.le_refl _) hc x hx
  exact ⟨h1.1, h1.2, (h x h1.1).2.1 h1.2⟩
/-- the terms themselves are a valuation -/
theorem TG.self (h : TG G N tm ρ) : VLs tm N tm := by
  intro c hc
  conv => lhs; rw [← ty_s_id (t := tm c)]
  exact ty_s_c fun x hx => ((h.var hc hx).2.2).symm
/-- a free variable gets a term -/
theorem TG.bind (h : TG G N tm ρ) (hv : v < N) (hv0 : (G v).1 = 0) (ht : t < N) (ht6 : ¬ (G t).1 = 6) (ho : ¬ ty_h v (tm t)) : TG (upf G v (6, t, 0)) N (fun c => ty_s (ty_1 v (tm t)) (tm c)) (fun c => if c = t then 0 else ρ c + 1) := by
  have hvt : tm v = .var (v + 3) := (h v hv).2.1 hv0
  have hne : ¬ v = t := fun z => ho (by rw [← z, hvt]; rfl)
  have htt : ty_s (ty_1 v (tm t)) (tm t) = tm t := by
    conv => rhs; rw [← ty_s_id (t := tm t)]
    refine ty_s_c fun x hx => ?_
    unfold ty_1
    rw [if_neg (fun z : x = v => ho (z ▸ hx))]
  intro c hc
  by_cases hcv : c = v
  · subst hcv
    rw [upf_eq]
    refine ⟨Nat.le_refl 6, fun z => ?_, fun z => ?_, fun z => ?_, fun z => ?_, fun z => ?_, fun z => ?_, fun _ => ⟨ht, ?_, ?_⟩⟩ <;> try (simp at z; done)
    · show ty_s _ (tm c) = ty_s _ (tm t)
      rw [hvt, ty_s3, htt]; unfold ty_1; rw [if_pos rfl]
    · show (if t = t then 0 else _) < (if c = t then 0 else _)
      rw [if_pos rfl, if_neg hne]; omega
  · rw [upf_ne hcv]
    obtain ⟨h6, h0, h1, h2, h3, h4, h5, h7⟩ := h c hc
    refine ⟨h6, fun z => ?_, fun z => ?_, fun z => ?_, fun z => ?_, fun z => ?_, fun z => ?_, fun z => ?_⟩
    · show ty_s _ (tm c) = _
      rw [h0 z, ty_s3]; unfold ty_1; rw [if_neg hcv]
    · show ty_s _ (tm c) = _
      rw [h1 z]; rfl
    · show ty_s _ (tm c) = _
      rw [h2 z]; rfl
    · show ty_s _ (tm c) = _
      rw [h3 z]; rfl
    · refine ⟨(h4 z).1, ?_⟩
      show ty_s _ (tm c) = _
      rw [(h4 z).2]; rfl
    · refine ⟨(h5 z).1, (h5 z).2.1, ?_⟩
      show ty_s _ (tm c) = _
      rw [(h5 z).2.2]; rfl
    · obtain ⟨a1, a2, a3⟩ := h7 z
      refine ⟨a1, ?_, ?_⟩
      · show ty_s _ (tm c) = _
        rw [a2]
      · show (if _ = t then 0 else _) < (if c = t then 0 else _)
        rw [if_neg (c := c = t) (fun z' => ht6 (z' ▸ z))]
        split <;> omega
/-- a new cell -/
theorem TG.new (h : TG G N tm ρ) {z : Nat × Nat × Nat} {u : tE} (hz : tn (upf tm N u) ρ (N + 1) N z) : TG (upf G N z) (N + 1) (upf tm N u) ρ := by
  intro c hc
  by_cases hcN : c = N
  · subst hcN; rw [upf_eq]; exact hz
  · rw [upf_ne hcN]
    have hc' : c < N := by omega
    obtain ⟨h6, h0, h1, h2, h3, h4, h5, h7⟩ := h c hc'
    refine ⟨h6, fun z => ?_, fun z => ?_, fun z => ?_, fun z => ?_, fun z => ?_, fun z => ?_, fun z => ?_⟩
    · rw [upf_ne hcN]; exact h0 z
    · rw [upf_ne hcN]; exact h1 z
    · rw [upf_ne hcN]; exact h2 z
    · rw [upf_ne hcN]; exact h3 z
    · have := (h4 z).1; rw [upf_ne hcN, upf_ne (by omega)]; exact ⟨by omega, (h4 z).2⟩
    · have := (h5 z).1; have := (h5 z).2.1; rw [upf_ne hcN, upf_ne (by omega), upf_ne (by omega)]; exact ⟨by omega, by omega, (h5 z).2.2⟩
    · have := (h7 z).1; rw [upf_ne hcN, upf_ne (by omega)]; exact ⟨by omega, (h7 z).2⟩
/-- a variable in a larger term: no solution -/
theorem ty_cyc {u : tE} (hx : ty_h x u) (hu : u ≠ .var (x + 3)) : ¬ V x = ty_s V u := by
  intro h
  have := ty_w_lt (V := V) hx hu
  rw [← h] at this
  omega
/-- valuations of more cells -/
theorem VLs.up {u : tE} (h : VLs tm N V) (hN : V N = ty_s V u) : VLs (upf tm N u) (N + 1) V := by
  intro c hc
  by_cases hcN : c = N
  · rw [hcN, upf_eq]; exact hN
  · rw [upf_ne hcN]; exact h c (by omega)
theorem VLs.down {u : tE} (h : VLs (upf tm N u) (N + 1) V) : VLs tm N V ∧ V N = ty_s V u := by
  refine ⟨fun c hc => ?_, ?_⟩
  · have := h c (by omega)
    rw [upf_ne (by omega)] at this
    exact this
  · have := h N (by omega)
    rw [upf_eq] at this
    exact this
end TG
