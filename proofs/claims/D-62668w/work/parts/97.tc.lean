/-! LEVELS of variables; variables and height of a type -/
set_option maxRecDepth 100000
def ty_t : tE → List Nat
  | .var k => if (show Nat from k) < 3 then [] else [(show Nat from k) - 3]
  | .neg a => ty_t a
  | .add a b => ty_t a ++ ty_t b
  | _ => []
def ty_ht : tE → Nat
  | .neg a => ty_ht a + 1
  | .add a b => max (ty_ht a) (ty_ht b) + 1
  | _ => 1
/-- levels go down, and what has a low level is known by what had one -/
def LSv (N : Nat) (tm : Nat → tE) (L : Nat → Int32) (tm' : Nat → tE) (L' : Nat → Int32) : Prop := (∀ c, c < N → ∀ l, (∀ x, ty_h x (tm c) → L x ≤ l) → ∀ x, ty_h x (tm' c) → L' x ≤ l) ∧ (∀ m V W, VLs tm' N V → VLs tm' N W → (∀ x, x < N → tm x = .var (x + 3) → L x ≤ m → V x = W x) → ∀ x, x < N → tm' x = .var (x + 3) → L' x ≤ m → V x = W x) ∧ (∀ x, L' x = 1000 ↔ L x = 1000)
section LSv
variable {tm tm' tm'' : Nat → tE} {N v t x : Nat} {L L' L'' : Nat → Int32} {u : tE}
theorem ty_t_h : ty_h x u ↔ x ∈ ty_t u := by
  induction u with
  | var k =>
    show ty_e x k ↔ x ∈ (if (show Nat from k) < 3 then [] else [(show Nat from k) - 3])
    have key : ∀ k : Nat, ty_e x k ↔ x ∈ (if k < 3 then [] else [k - 3]) := by
      intro k
      unfold ty_e
      split
      · simp; omega
      · rw [List.mem_singleton]; omega
    exact key k
  | neg a ih => exact ih
  | add a b ih1 ih2 =>
    show ty_h x a ∨ ty_h x b ↔ x ∈ ty_t a ++ ty_t b
    rw [List.mem_append, ih1, ih2]
  | _ => exact ⟨fun h => h.elim, fun h => by cases h⟩
theorem ty_t_w : 4 * (ty_t u).length ≤ ty_w u + 3 := by
  induction u with
  | var k =>
    show 4 * (if (show Nat from k) < 3 then [] else [(show Nat from k) - 3]).length ≤ 1 + 3
    split <;> simp
  | neg a ih => show 4 * (ty_t a).length ≤ ty_w a + 2 + 3; omega
  | add a b ih1 ih2 => show 4 * (ty_t a ++ ty_t b).length ≤ ty_w a + ty_w b + 3 + 3; rw [List.length_append]; omega
  | _ => show 4 * 0 ≤ 1 + 3; omega
theorem ty_ht_w : 2 * ty_ht u ≤ ty_w u + 1 := by
  induction u with
  | neg a ih => show 2 * (ty_ht a + 1) ≤ ty_w a + 2 + 1; omega
  | add a b ih1 ih2 => show 2 * (max (ty_ht a) (ty_ht b) + 1) ≤ ty_w a + ty_w b + 3 + 1; omega
  | _ => show 2 * 1 ≤ 1 + 1; omega
theorem mn_le {x y : Int32} : mn x y ≤ x ∧ mn x y ≤ y := by
  unfold mn
  split
  · rename_i h; exact ⟨Int32.le_of_lt h, Int32.le_refl _⟩
  · rename_i h; exact ⟨Int32.le_refl _, Int32.not_lt.mp h⟩
theorem LSv.refl : LSv N tm L tm L := ⟨fun _ _ _ h => h, fun _ _ _ _ _ h => h, fun _ => Iff.rfl⟩
theorem LSv.trans (h : LSv N tm L tm' L') (h' : LSv N tm' L' tm'' L'') (hs : ∀ V, VLs tm'' N V → VLs tm' N V) : LSv N tm L tm'' L'' := ⟨fun c hc l hl => h'.1 c hc l (h.1 c hc l hl), fun m V W hV hW hh => h'.2.1 m V W hV hW (h.2.1 m V W (hs V hV) (hs W hW) hh), fun x => (h'.2.2 x).trans (h.2.2 x)⟩
theorem LSv.bind (hs : SF tm N) (hv : v < N) (hv0 : tm v = .var (v + 3)) (ht : t < N) (ho : ¬ ty_h v (tm t)) (h1 : ∀ u, ty_h u (tm t) → L' u = mn (L u) (L v)) (h0 : ∀ u, ¬ ty_h u (tm t) → L' u = L u) (hg : ¬ L v = 1000) (hn : ∀ x, ty_h x (tm t) → ¬ L x = 1000) : LSv N tm L (fun c => ty_s (ty_1 v (tm t)) (tm c)) L' := by
  have hh : ∀ c x, ty_h x (ty_s (ty_1 v (tm t)) (tm c)) ↔ (ty_h v (tm c) ∧ ty_h x (tm t)) ∨ (ty_h x (tm c) ∧ ¬ x = v) := by
    intro c x
    rw [ty_h_s]
    constructor
    · rintro ⟨y, h1, h2⟩
      unfold ty_1 at h2
      split at h2
      · rename_i e; rw [e] at h1; exact .inl ⟨h1, h2⟩
      · rename_i e
        have e' : y + 3 = x + 3 := h2
        have e2 : y = x := by omega
        rw [e2] at h1 e; exact .inr ⟨h1, e⟩
    · rintro (⟨h1, h2⟩ | ⟨h1, h2⟩)
      · exact ⟨v, h1, by unfold ty_1; rw [if_pos rfl]; exact h2⟩
      · exact ⟨x, h1, by unfold ty_1; rw [if_neg h2]; rfl⟩
  have le : ∀ x, L' x ≤ L x := fun x => by
    by_cases hx : ty_h x (tm t)
    · rw [h1 x hx]; exact mn_le.1
    · rw [h0 x hx]; exact Int32.le_refl _
  refine ⟨fun c hc l hl x hx => ?_, fun m V W hV hW hyp x hxN hx hxm => ?_, fun x => ?_⟩
  · rcases (hh c x).mp hx with ⟨a1, a2⟩ | ⟨a1, _⟩
    · rw [h1 x a2]; exact Int32.le_trans mn_le.2 (hl v a1)
    · exact Int32.le_trans (le x) (hl x a1)
  · obtain ⟨hV1, hV2⟩ := (VLs.bind hv0 hv).mp hV
    obtain ⟨hW1, hW2⟩ := (VLs.bind hv0 hv).mp hW
    have hxx : ty_h x (ty_s (ty_1 v (tm t)) (tm x)) := by
      have hx' : ty_s (ty_1 v (tm t)) (tm x) = .var (x + 3) := hx
      rw [hx']; rfl
    have hxu : tm x = .var (x + 3) := by
      rcases (hh x x).mp hxx with ⟨a1, a2⟩ | ⟨a1, _⟩
      · exact (hs t ht x a2).2
      · exact (hs x hxN x a1).2
    by_cases hxt : ty_h x (tm t)
    · rw [h1 x hxt] at hxm
      unfold mn at hxm
      split at hxm
      · have hvv := hyp v hv hv0 hxm
        rw [hV2, hW2] at hvv
        exact ty_s_i hvv x hxt
      · exact hyp x hxN hxu hxm
    · rw [h0 x hxt] at hxm
      exact hyp x hxN hxu hxm
  · by_cases hxt : ty_h x (tm t)
    · rw [h1 x hxt]
      unfold mn
      split
      · exact ⟨fun z => absurd z hg, fun z => absurd z (hn x hxt)⟩
      · exact Iff.rfl
    · rw [h0 x hxt]
end LSv
