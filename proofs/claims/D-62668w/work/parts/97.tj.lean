/-! FunDesk: what an instance means -/
set_option maxRecDepth 100000
/-- levels, when types come -/
def LW (N : Nat) (tm : Nat → tE) (L : Nat → Int32) (N' : Nat) (tm' : Nat → tE) (L' : Nat → Int32) (lvl : Int32) : Prop := (∀ c, c < N → ∀ l, (∀ x, ty_h x (tm c) → L x ≤ l) → ∀ x, ty_h x (tm' c) → L' x ≤ l) ∧ ∀ m V W, m < lvl → VLs tm' N' V → VLs tm' N' W → (∀ x, x < N → tm x = .var (x + 3) → L x ≤ m → V x = W x) → ∀ x, x < N' → tm' x = .var (x + 3) → L' x ≤ m → V x = W x
section TJJ
variable {D D' : sS} {a t N N' N'' : Nat} {G G' : tG} {tm tm' tm'' : Nat → tE} {ρ ρ' : Nat → Nat} {S lvl : Int32} {L L' L'' : Nat → Int32} {κ' : Nat → Option Nat} {V : Nat → tE} {σ : tE}
theorem LW.trans (h : LW N tm L N' tm' L' lvl) (h' : LW N' tm' L' N'' tm'' L'' lvl) (hN : N ≤ N') (hs : ∀ V, VLs tm'' N'' V → VLs tm' N' V) : LW N tm L N'' tm'' L'' lvl := ⟨fun c hc l hl => h'.1 c (Nat.lt_of_lt_of_le hc hN) l (h.1 c hc l hl), fun m V W hm hV hW hh => h'.2 m V W hm hV hW (h.2 m V W hm (hs V hV) (hs W hW) hh)⟩
theorem LSv.lw (h : LSv N tm L tm' L') : LW N tm L N tm' L' lvl := ⟨h.1, fun m V W _ => h.2.1 m V W⟩
theorem LW.refl : LW N tm L N tm L lvl := LSv.refl.lw
/-- cells below stay as they are -/
theorem SP.ext {g g' : Nat → Prop} (hs : SF tm N) (hN : N ≤ N') (hs' : SF tm' N') (he : ∀ c, c < N → tm' c = tm c) (hg : ∀ x, x < N → (g' x ↔ g x)) : SP tm N g tm' N' g' := by
  refine ⟨hN, hs', fun V hV c hc => ?_, fun c hc hn x hx => ?_, fun z hz => ?_⟩
  · rw [hV c (by omega), he c hc]
  · rw [he c hc] at hx
    rw [hg x (hs c hc x hx).1]
    exact hn x hx
  · obtain ⟨h1, h2, h3⟩ := hz
    refine ⟨by omega, fun hz x hx => ?_, fun S hS V hV σ => ?_⟩
    · rw [he _ h1] at hx
      rw [hg x (hs _ h1 x hx).1]
      exact h2 hz x hx
    · have hV' : VLs tm N V := fun c hc => by rw [hV c (by omega), he c hc]
      rw [h3 S hS V hV']
      unfold IN
      rw [he _ h1]
      constructor
      · rintro ⟨W, w1, w2⟩
        exact ⟨W, fun x hx hgx => w1 x hx fun z => hgx ((hg x (hs _ h1 x hx).1).mpr z), w2⟩
      · rintro ⟨W, w1, w2⟩
        exact ⟨W, fun x hx hgx => w1 x hx fun z => hgx ((hg x (hs _ h1 x hx).1).mp z), w2⟩
theorem RSI.sem (hH : TH D G tm ρ) (ha : isT D a) (hlv : ¬ lvl = 1000) (h : RSI D tm L (82 + gN D) S lvl (fun _ => none) a D' G' tm' ρ' L' κ' t) : SP tm (82 + gN D) (gn L) tm' (82 + gN D') (gn L') ∧ NG tm' (gn L') t ∧ (∀ V, VLs tm' (82 + gN D') V → IN tm (gn L) V a (V t)) ∧ (∀ V σ, VLs tm (82 + gN D) V → IN tm (gn L) V a σ → ∃ V', VLs tm' (82 + gN D') V' ∧ (∀ c, c < 82 + gN D → V' c = V c) ∧ V' t = σ) ∧ LW (82 + gN D) tm L (82 + gN D') tm' L' lvl := by
  classical
  obtain ⟨⟨H', LV', F'⟩, r1, r2, C, _, r4, r5, r6, _, _⟩ := h
  have hN : gN D ≤ gN D' := F'.2.2.2.1
  have hal := hH.lt ha
  have htl := H'.lt r4
  have hsf := hH.sf
  have hsf' := H'.sf
  have hcop : ∀ u k, κ' u = some k → 82 + gN D ≤ k ∧ k < 82 + gN D' ∧ L' k = lvl := fun u k hk => by
    obtain ⟨_, _, q3, q4, q5⟩ := C.2.1 u k hk
    have := H'.lt q4
    exact ⟨q3, this, r2 k q3 this q5⟩
  have hgen : ∀ u, ty_h u (tm a) → (κ' u = none ↔ ¬ L u = 1000) := fun u hu => by
    constructor
    · exact fun z y => r6 u hu y z
    · intro z
      cases hk : κ' u with
      | none => rfl
      | some k =>
        obtain ⟨q1, q2, _⟩ := C.2.1 u k hk
        rw [(r1 u q1).2] at q2
        exact absurd q2 z
  refine ⟨SP.ext hsf (by omega) hsf' (fun c hc => (r1 c hc).1) (fun x hx => by unfold gn; rw [(r1 x hx).2]), fun x hx => ?_, fun V hV => ?_, fun V σ hV ⟨W, w1, w2⟩ => ?_, fun c hc l hl x hx => ?_, fun m V W hm hV hW hh x hx hxv hxm => ?_⟩
  · rw [r5] at hx
    obtain ⟨u, hu, hxu⟩ := ty_h_s.mp hx
    unfold rn at hxu
    cases hk : κ' u with
    | none =>
      rw [hk] at hxu
      have e : u = x := Nat.add_right_cancel (show u + 3 = x + 3 from hxu)
      subst e
      have := (hsf a hal u hu).1
      unfold gn
      rw [(r1 u this).2]
      exact (hgen u hu).mp hk
    | some k =>
      rw [hk] at hxu
      have e : k = x := Nat.add_right_cancel (show k + 3 = x + 3 from hxu)
      subst e
      unfold gn
      rw [(hcop u k hk).2.2]
      exact hlv
  · refine ⟨fun u => ty_s V (rn κ' u), fun x hx hg => ?_, ?_⟩
    · have : κ' x = none := (hgen x hx).mpr hg
      show ty_s V (rn κ' x) = V x
      unfold rn
      rw [this]
      exact ty_s3
    · rw [hV t htl, r5, ty_s_s]
  · let Y : Nat → tE := fun x => if x < 82 + gN D then V x else if h : ∃ u, κ' u = some x then W (Classical.choose h) else .var 0
    have hYold : ∀ x, x < 82 + gN D → Y x = V x := fun x hx => if_pos hx
    have hYcop : ∀ u k, κ' u = some k → Y k = W u := fun u k hk => by
      have hk' := (hcop u k hk).1
      have hex : ∃ u, κ' u = some k := ⟨u, hk⟩
      show (if k < 82 + gN D then V k else if h : ∃ u, κ' u = some k then W (Classical.choose h) else .var 0) = W u
      rw [if_neg (by omega), dif_pos hex]
      rw [C.2.2 _ _ k (Classical.choose_spec hex) hk]
    refine ⟨fun c => ty_s Y (tm' c), VLs.of hsf', fun c hc => ?_, ?_⟩
    · show ty_s Y (tm' c) = V c
      rw [(r1 c hc).1, hV c hc]
      exact ty_s_c fun x hx => hYold x (hsf c hc x hx).1
    · show ty_s Y (tm' t) = σ
      rw [r5, ty_s_s, w2]
      refine ty_s_c fun u hu => ?_
      have huN := (hsf a hal u hu).1
      unfold rn
      cases hk : κ' u with
      | none =>
        show ty_s Y (.var (u + 3)) = W u
        rw [ty_s3, hYold u huN]
        exact (w1 u hu ((hgen u hu).mp hk)).symm
      | some k =>
        show ty_s Y (.var (k + 3)) = W u
        rw [ty_s3]
        exact hYcop u k hk
  · rw [(r1 c hc).1] at hx
    rw [(r1 x (hsf c hc x hx).1).2]
    exact hl x hx
  · by_cases hxN : x < 82 + gN D
    · rw [(r1 x hxN).1] at hxv
      rw [(r1 x hxN).2] at hxm
      exact hh x hxN hxv hxm
    · rw [r2 x (by omega) hx hxv] at hxm
      exact absurd (Int32.lt_of_lt_of_le hm hxm) Int32.lt_irrefl
end TJJ
