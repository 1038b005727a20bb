/-! THE READER has fuel enough -/
set_option maxRecDepth 100000
def kR (g : Nat) : Nat := match g with
  | 0 => 7
  | 1 => 6
  | 2 => 5
  | 3 => 4
  | 4 => 3
  | 5 => 2
  | 6 => 1
  | 7 => 2
  | 9 => 3
  | 15 => 2
  | _ => 1
def lR (g : Nat) : Nat := match g with
  | 13 => 0
  | 14 => 0
  | 15 => 0
  | _ => 1
def OKR (n : Nat) (u : tR) (q : Nat) : Prop := ∃ r, u = some r ∧ ∀ e p' b, r = some (e, p', b) → q ≤ p' ∧ p' ≤ n
section FU
variable {tx : Nat → Int32} {n p q q' : Nat} {u : tR} {F : tE → Nat → Int32 → tR} {e : tE} {b c : Int32} {G : Nat → tR}
theorem OKR.bd (h : OKR n u q) (h2 : ∀ e p' b, q ≤ p' → p' ≤ n → OKR n (F e p' b) q') : OKR n (bd u F) q' := by
  obtain ⟨r, rfl, hr⟩ := h
  match r, hr with
  | none, _ => exact ⟨none, rfl, fun _ _ _ h => by cases h⟩
  | some (e, p', b), hr => exact h2 e p' b (hr e p' b rfl).1 (hr e p' b rfl).2
theorem OKR.no : OKR n rno q := ⟨none, rfl, fun _ _ _ h => by cases h⟩
theorem OKR.ok (h : q ≤ p) (hn : p ≤ n) : OKR n (rok e p b) q := ⟨_, rfl, fun e' p' b' h' => by cases h'; exact ⟨h, hn⟩⟩
theorem OKR.eat (hc : ¬ c = 0) (h : sk tx n p < n → OKR n (G (sk tx n p + 1)) q) : OKR n (et tx n c p G) q := by
  unfold et
  split
  · rename_i h'; exact h (ch_lt h' hc)
  · exact .no
theorem OKR.le (h : OKR n u q) (hq : q' ≤ q) : OKR n u q' := by
  obtain ⟨r, h1, h2⟩ := h
  exact ⟨r, h1, fun e p' b hr => ⟨Nat.le_trans hq (h2 e p' b hr).1, (h2 e p' b hr).2⟩⟩
theorem dgF_n {k : Nat} : ∀ (f p j : Nat) (v v' : Int32) (j' p' : Nat), p ≤ n → dgF tx n k f p v j = (v', j', p') → p' ≤ n := by
  intro f
  induction f with
  | zero => intro p j v v' j' p' hp h; unfold dgF at h; simp only [Prod.mk.injEq] at h; omega
  | succ f ih =>
    intro p j v v' j' p' hp h
    unfold dgF at h
    split at h
    · rename_i hc
      exact ih _ _ _ _ _ _ (dg_lt hc.1) h
    · simp only [Prod.mk.injEq] at h; omega
theorem dgs_n {k p' : Nat} {v : Int32} (hk : k ≤ 8) (hp : p ≤ n) (h : dgs tx n k p = some (v, p')) : p' ≤ n := by
  unfold dgs at h
  cases e : dgF tx n k (k + 2) p 0 0 with
  | mk v' q =>
    obtain ⟨j', p''⟩ := q
    rw [e] at h
    dsimp only at h
    split at h
    · cases h
    · simp only [Option.some.injEq, Prod.mk.injEq] at h
      obtain ⟨rfl, rfl⟩ := h
      exact dgF_n _ _ _ _ _ _ _ hp e
theorem PR_ok : ∀ (f g p dep : Nat) (bn : Int32) (acc : tE), (g < 10 ∨ g = 13 ∨ g = 14 ∨ g = 15) → p ≤ n → 8 * (n - p) + kR g ≤ f → OKR n (PR tx n f g p dep bn acc) (p + lR g) := by
  intro f
  induction f with
  | zero =>
    intro g p dep bn acc _ _ h
    have : 1 ≤ kR g := by unfold kR; split <;> omega
    omega
  | succ f ih =>
    intro g p dep bn acc hg hp hf
    have s0 := sk_lt (tx := tx) hp
    have t0 := sk_le (tx := tx) (n := n) (p := p)
    have call : ∀ (g' : Nat) (p' dep' : Nat) (bn' : Int32) (acc' : tE), (g' < 10 ∨ g' = 13 ∨ g' = 14 ∨ g' = 15) → p' ≤ n → p ≤ p' → 8 * (n - p') + kR g' ≤ f → OKR n (PR tx n f g' p' dep' bn' acc') (p' + lR g') := fun g' p' dep' bn' acc' h0 h1 _ h2 => ih g' p' dep' bn' acc' h0 h1 h2
    match g, hg with
    | 1, _ =>
      simp only [kR, lR] at hf ⊢
      rw [PR_1]
      refine (call 2 p dep 0 acc (by omega) hp (by omega) (by simp only [kR]; omega)).bd fun e p1 b1 h1 h2 => ?_
      simp only [lR] at h1
      have s1 := sk_lt (tx := tx) h2
      have t1 := sk_le (tx := tx) (n := n) (p := p1)
      split
      · rename_i hc
        have := ch_lt hc (by decide)
        refine (call 1 _ dep 0 acc (by omega) (by omega) (by omega) (by simp only [kR]; omega)).bd fun e2 p2 b2 h3 h4 => ?_
        simp only [lR] at h3
        exact .ok (by omega) h4
      · exact .ok (by omega) s1
    | 3, _ =>
      simp only [kR, lR] at hf ⊢
      rw [PR_3]
      refine (call 4 p dep 0 acc (by omega) hp (by omega) (by simp only [kR]; omega)).bd fun e p1 b1 h1 h2 => ?_
      simp only [lR] at h1
      refine (call 13 p1 dep 0 e (by omega) h2 (by omega) (by simp only [kR]; omega)).le ?_
      simp only [lR]; omega
    | 4, _ =>
      simp only [kR, lR] at hf ⊢
      rw [PR_4]
      refine (call 5 p dep 0 acc (by omega) hp (by omega) (by simp only [kR]; omega)).bd fun e p1 b1 h1 h2 => ?_
      simp only [lR] at h1
      refine (call 14 p1 dep 0 e (by omega) h2 (by omega) (by simp only [kR]; omega)).le ?_
      simp only [lR]; omega
    | 5, _ =>
      simp only [kR, lR] at hf ⊢
      rw [PR_5]
      refine (call 6 p dep 0 acc (by omega) hp (by omega) (by simp only [kR]; omega)).bd fun e p1 b1 h1 h2 => ?_
      simp only [lR] at h1
      refine (call 15 p1 dep 0 e (by omega) h2 (by omega) (by simp only [kR]; omega)).le ?_
      simp only [lR]; omega
    | 13, _ =>
      simp only [kR, lR] at hf ⊢
      rw [PR_13]
      have hs := sgn_le (tx := tx) (k := 1) hp
      split
      · exact .ok (by omega) hs.2.1
      · rename_i hc
        have hl := hs.2.2 hc
        refine (call 4 _ dep 0 acc (by omega) hs.2.1 (by omega) (by simp only [kR]; omega)).bd fun e p1 b1 h1 h2 => ?_
        simp only [lR] at h1
        refine (call 13 p1 dep 0 _ (by omega) h2 (by omega) (by simp only [kR]; omega)).le ?_
        simp only [lR]; omega
    | 14, _ =>
      simp only [kR, lR] at hf ⊢
      rw [PR_14]
      have hs := sgn_le (tx := tx) (k := 2) hp
      split
      · exact .ok (by omega) hs.2.1
      · rename_i hc
        have hl := hs.2.2 hc
        refine (call 5 _ dep 0 acc (by omega) hs.2.1 (by omega) (by simp only [kR]; omega)).bd fun e p1 b1 h1 h2 => ?_
        simp only [lR] at h1
        refine (call 14 p1 dep 0 _ (by omega) h2 (by omega) (by simp only [kR]; omega)).le ?_
        simp only [lR]; omega
    | 2, _ =>
      simp only [kR, lR] at hf ⊢
      rw [PR_2]
      refine (call 3 p dep 0 acc (by omega) hp (by omega) (by simp only [kR]; omega)).bd fun e p1 b1 h1 h2 => ?_
      simp only [lR] at h1
      have hs := sgn_le (tx := tx) (k := 0) h2
      split
      · exact .ok (by omega) hs.2.1
      · rename_i hc
        have hl := hs.2.2 hc
        refine (call 3 _ dep 0 acc (by omega) hs.2.1 (by omega) (by simp only [kR]; omega)).bd fun e2 p2 b2 h3 h4 => ?_
        simp only [lR] at h3
        exact .ok (by omega) h4
    | 15, _ =>
      simp only [kR, lR] at hf ⊢
      rw [PR_15]
      split
      · rename_i hc
        have hl := bg_lt hc
        refine (call 6 _ dep 0 acc (by omega) s0 (by omega) (by simp only [kR]; omega)).bd fun e p1 b1 h1 h2 => ?_
        simp only [lR] at h1
        refine (call 15 p1 dep 0 _ (by omega) h2 (by omega) (by simp only [kR]; omega)).le ?_
        simp only [lR]; omega
      · exact .ok (by omega) s0
    | 7, _ =>
      simp only [kR, lR] at hf ⊢
      rw [PR_7]
      split
      · exact .no
      refine (call 8 p _ bn acc (by omega) hp (by omega) (by simp only [kR]; omega)).bd fun e p1 b1 h1 h2 => ?_
      simp only [lR] at h1
      have s1 := sk_lt (tx := tx) h2
      have t1 := sk_le (tx := tx) (n := n) (p := p1)
      split
      · rename_i hc
        have := ch_lt hc (by decide)
        refine (call 7 _ _ b1 acc (by omega) (by omega) (by omega) (by simp only [kR]; omega)).bd fun e2 p2 b2 h3 h4 => ?_
        simp only [lR] at h3
        exact .ok (by omega) h4
      · exact .ok (by omega) s1
    | 9, _ =>
      simp only [kR, lR] at hf ⊢
      rw [PR_9]
      split
      · split
        · exact .no
        refine (call 7 p _ 0 _ (by omega) hp (by omega) (by simp only [kR]; omega)).bd fun e p1 b1 h1 h2 => ?_
        simp only [lR] at h1
        have s1 := sk_lt (tx := tx) h2
        have t1 := sk_le (tx := tx) (n := n) (p := p1)
        refine .eat (by decide) fun hl => ?_
        refine (call 0 _ _ 0 _ (by omega) (by omega) (by omega) (by simp only [kR]; omega)).bd fun e2 p2 b2 h3 h4 => ?_
        simp only [lR] at h3
        have s2 := sk_lt (tx := tx) h4
        have t2 := sk_le (tx := tx) (n := n) (p := p2)
        split
        · rename_i hc
          have := ch_lt hc (by decide)
          refine (call 9 _ _ 0 _ (by omega) (by omega) (by omega) (by simp only [kR]; omega)).bd fun e3 p3 b3 h5 h6 => ?_
          simp only [lR] at h5
          exact .ok (by omega) h6
        · exact .ok (by omega) s2
      · exact .no
    | 6, _ =>
      simp only [kR, lR] at hf ⊢
      rw [PR_6]
      split
      case isFalse => exact .no
      rename_i hb
      have hl := bg_lt hb
      split
      · split
        · exact .no
        · rename_i v p1 hv
          have h1 := dgs_i (by omega) hv
          have h1n := dgs_n (by omega) s0 hv
          split
          · rename_i hc
            have hl1 := ch_lt hc (by decide)
            split
            · exact .no
            · rename_i w p2 hw
              have h2 := dgs_i (by omega) hw
              have h2n := dgs_n (by omega) (by omega) hw
              exact .ok (by omega) h2n
          · exact .ok (by omega) h1n
      split
      · exact .ok (by omega) (by omega)
      split
      · exact .ok (by omega) (by omega)
      split
      · exact .ok (by omega) (by omega)
      split
      · exact .ok (by omega) (by omega)
      split
      · refine (call 6 _ _ 0 acc (by omega) (by omega) (by omega) (by simp only [kR]; omega)).bd fun e p1 b1 h1 h2 => ?_
        simp only [lR] at h1
        exact .ok (by omega) h2
      split
      · split
        · rename_i hc
          have := ch_lt hc (by decide)
          exact .ok (by omega) (by omega)
        · exact .no
      split
      · refine (call 0 _ _ 0 acc (by omega) (by omega) (by omega) (by simp only [kR]; omega)).bd fun e p1 b1 h1 h2 => ?_
        simp only [lR] at h1
        have s1 := sk_lt (tx := tx) h2
        have t1 := sk_le (tx := tx) (n := n) (p := p1)
        exact .eat (by decide) fun hl => .ok (by omega) (by omega)
      · exact .ok (by omega) (by omega)
    | 10, h => exact absurd h (by omega)
    | 11, h => exact absurd h (by omega)
    | 12, h => exact absurd h (by omega)
    | g + 16, h => exact absurd h (by omega)
    | 8, _ =>
      simp only [kR, lR] at hf ⊢
      rw [PR_8]
      split
      · rename_i hb
        have hl := dg_lt hb
        split
        · exact .no
        · rename_i v p1 hv
          have h1 := dgs_i (by omega) hv
          exact .ok (by omega) (dgs_n (by omega) s0 hv)
      split
      · rename_i hc; have := ch_lt hc (by decide); exact .ok (by omega) (by omega)
      split
      · rename_i hc; have := ch_lt hc (by decide); exact .ok (by omega) (by omega)
      split
      · rename_i hc; have := ch_lt hc (by decide); exact .ok (by omega) (by omega)
      split
      · rename_i hc
        have := ch_lt hc (by decide)
        split
        · rename_i hc
          have := ch_lt hc (by decide)
          exact .ok (by omega) (by omega)
        · exact .no
      split
      · rename_i hc
        have := ch_lt hc (by decide)
        refine (call 7 _ _ bn acc (by omega) (by omega) (by omega) (by simp only [kR]; omega)).bd fun e p1 b1 h1 h2 => ?_
        simp only [lR] at h1
        have s1 := sk_lt (tx := tx) h2
        have t1 := sk_le (tx := tx) (n := n) (p := p1)
        exact .eat (by decide) fun hl => .ok (by omega) (by omega)
      split
      · rename_i hc
        have := lt_lt hc
        split
        · exact .no
        · exact .ok (by omega) (by omega)
      · exact .no
    | 0, _ =>
      simp only [kR, lR] at hf ⊢
      rw [PR_0]
      have two : ∀ (c : Int32) (p1 : Nat) (K : tE → tE → tE), ¬ c = 0 → p < p1 → p1 ≤ n → OKR n (bd (PR tx n f 0 p1 (dep + 1) 0 acc) fun w p3 _ => et tx n c p3 fun p4 => bd (PR tx n f 0 p4 (dep + 1) 0 acc) fun i p5 _ => rok (K w i) p5 0) (p + 1) := by
        intro c p1 K hc h1 h2
        refine (call 0 p1 _ 0 acc (by omega) h2 (by omega) (by simp only [kR]; omega)).bd fun e p2 b2 h3 h4 => ?_
        simp only [lR] at h3
        have s1 := sk_lt (tx := tx) h4
        have t1 := sk_le (tx := tx) (n := n) (p := p2)
        refine .eat hc fun hl => ?_
        refine (call 0 _ _ 0 acc (by omega) (by omega) (by omega) (by simp only [kR]; omega)).bd fun e2 p5 b5 h5 h6 => ?_
        simp only [lR] at h5
        exact .ok (by omega) h6
      split
      · exact .no
      split
      · rename_i hc
        have l0 := ch_lt hc (by decide)
        refine (call 0 _ _ 0 acc (by omega) (by omega) (by omega) (by simp only [kR]; omega)).bd fun e p2 b2 h3 h4 => ?_
        simp only [lR] at h3
        have s1 := sk_lt (tx := tx) h4
        have t1 := sk_le (tx := tx) (n := n) (p := p2)
        refine .eat (by decide) fun hl => ?_
        exact two 124 _ _ (by decide) (by omega) (by omega)
      split
      · rename_i hc
        have l0 := ch_lt hc (by decide)
        refine (call 0 _ _ 0 acc (by omega) (by omega) (by omega) (by simp only [kR]; omega)).bd fun e p2 b2 h3 h4 => ?_
        simp only [lR] at h3
        have s1 := sk_lt (tx := tx) h4
        have t1 := sk_le (tx := tx) (n := n) (p := p2)
        refine .eat (by decide) fun hl => ?_
        refine (call 9 _ _ 0 _ (by omega) (by omega) (by omega) (by simp only [kR]; omega)).bd fun e3 p3 b3 h5 h6 => ?_
        simp only [lR] at h5
        have s3 := sk_lt (tx := tx) h6
        have t3 := sk_le (tx := tx) (n := n) (p := p3)
        exact .eat (by decide) fun hl => .ok (by omega) (by omega)
      split
      · rename_i hc
        have l0 : sk tx n p < n := by rcases hc with h | h | h <;> exact ch_lt h (by decide)
        have s1 := sk_lt (tx := tx) (n := n) (p := sk tx n p + 1) (by omega)
        have t1 := sk_le (tx := tx) (n := n) (p := sk tx n p + 1)
        split
        · rename_i hl
          have l1 := lt_lt hl
          have s2 := sk_lt (tx := tx) (n := n) (p := sk tx n (sk tx n p + 1) + 1) (by omega)
          have t2 := sk_le (tx := tx) (n := n) (p := sk tx n (sk tx n p + 1) + 1)
          split
          · refine .eat (by decide) fun hl => ?_
            refine (call 0 _ _ 0 acc (by omega) (by omega) (by omega) (by simp only [kR]; omega)).bd fun e p2 b2 h3 h4 => ?_
            simp only [lR] at h3
            exact .ok (by omega) h4
          · refine .eat (by decide) fun hl => ?_
            have s3 := sk_lt (tx := tx) (n := n) (p := sk tx n (sk tx n (sk tx n p + 1) + 1) + 1) (by omega)
            have t3 := sk_le (tx := tx) (n := n) (p := sk tx n (sk tx n (sk tx n p + 1) + 1) + 1)
            split
            · split
              · exact two 59 _ _ (by decide) (by omega) (by omega)
              · exact .no
            · exact two 59 _ _ (by decide) (by omega) (by omega)
        · exact .no
      · refine (call 1 _ _ 0 acc (by omega) s0 (by omega) (by simp only [kR]; omega)).le ?_
        simp only [lR]; omega
end FU
