/-! THE TREES that are read: no more names than characters -/
set_option maxRecDepth 100000
def bz : tE → Nat
  | .pow (.neg b) _ => bz b + 1
  | .mul f a => bz f + bz a
  | .pow (.add l r) _ => bz l + bz r
  | .neg r => bz r
  | .sub t (.add y z) => bz t + bz y + bz z
  | .pow (.sub w i) _ => bz w + bz i + 1
  | .pow (.mul w i) _ => bz w + bz i + 1
  | .add w cl => bz w + bz cl
  | .sub q (.sub e r) => (pv q).length + bz e + bz r
  | _ => 0
section MB
variable {tx : Nat → Int32} {n p p1 : Nat} {c v : Int32}
def bG (g : Nat) (e : tE) : Nat := if g = 7 ∨ g = 8 then (pv e).length else bz e
theorem bG_e {g : Nat} {e : tE} (h1 : ¬ (g = 7 ∨ g = 8)) : bG g e = bz e := if_neg h1
theorem sgn_p {k : Nat} : p ≤ (sgn tx n k p).2 := by
  have := sk_le (tx := tx) (n := n) (p := p)
  cases h : sgt k (hr tx n (sk tx n p)) with
  | false => rw [sgn_n h]; exact this
  | true =>
    rw [sgn_y h]
    dsimp only
    split <;> omega
theorem PR_bz : ∀ (f g p dep : Nat) (bn : Int32) (acc e : tE) (p' : Nat) (b : Int32), PR tx n f g p dep bn acc = some (some (e, p', b)) → bG g e + p + (if g = 7 ∨ g = 8 ∨ g = 13 ∨ g = 14 ∨ g = 15 then 0 else 1) ≤ p' + (if g = 13 ∨ g = 14 ∨ g = 15 then bz acc else 0) := by
  intro f
  induction f with
  | zero => intro g p dep bn acc e p' b h; cases h
  | succ f ih =>
    intro g p dep bn acc e p' b h
    have SK : ∀ p, p ≤ sk tx n p := fun p => sk_le
    have E : ∀ g p dep bn acc e p' b, g < 7 → PR tx n f g p dep bn acc = some (some (e, p', b)) → bz e + p + 1 ≤ p' := fun g p dep bn acc e p' b hg h => by
      have := ih g p dep bn acc e p' b h
      rw [bG_e (by omega), if_neg (by omega), if_neg (by omega)] at this
      exact this
    have E0 := fun p dep bn acc e p' b => E 0 p dep bn acc e p' b (by omega)
    have EL : ∀ g p dep bn acc e p' b, (g = 13 ∨ g = 14 ∨ g = 15) → PR tx n f g p dep bn acc = some (some (e, p', b)) → bz e + p ≤ p' + bz acc := fun g p dep bn acc e p' b hg h => by
      have := ih g p dep bn acc e p' b h
      rw [bG_e (by omega), if_pos (by omega), if_pos hg] at this
      exact this
    have P : ∀ g p dep bn acc e p' b, (g = 7 ∨ g = 8) → PR tx n f g p dep bn acc = some (some (e, p', b)) → (pv e).length + p ≤ p' := fun g p dep bn acc e p' b hg h => by
      have := ih g p dep bn acc e p' b h
      unfold bG at this
      rw [if_pos hg, if_pos (by omega), if_neg (by omega)] at this
      exact this
    match g with
    | 0 =>
      show bz e + p + 1 ≤ p' + 0
      rw [PR_0] at h
      have s0 := SK p
      split at h
      · cases h
      split at h
      · rcases bd_some h with ⟨_, h⟩ | ⟨t, p1, b1, h1, h⟩
        · cases h
        rcases et_some h with ⟨_, h⟩ | ⟨_, h⟩
        · cases h
        rcases bd_some h with ⟨_, h⟩ | ⟨y, p2, b2, h2, h⟩
        · cases h
        rcases et_some h with ⟨_, h⟩ | ⟨_, h⟩
        · cases h
        rcases bd_some h with ⟨_, h⟩ | ⟨z, p3, b3, h3, h⟩
        · cases h
        cases h
        have := E0 _ _ _ _ _ _ _ h1; have := E0 _ _ _ _ _ _ _ h2; have := E0 _ _ _ _ _ _ _ h3
        have := SK p1; have := SK p2
        show bz t + bz y + bz z + p + 1 ≤ _
        omega
      split at h
      · rcases bd_some h with ⟨_, h⟩ | ⟨t, p1, b1, h1, h⟩
        · cases h
        rcases et_some h with ⟨_, h⟩ | ⟨_, h⟩
        · cases h
        rcases bd_some h with ⟨_, h⟩ | ⟨y, p2, b2, h2, h⟩
        · cases h
        rcases et_some h with ⟨_, h⟩ | ⟨_, h⟩
        · cases h
        cases h
        have := E0 _ _ _ _ _ _ _ h1
        have h9 := ih 9 _ _ _ _ _ _ _ h2
        rw [bG_e (by omega), if_neg (by omega), if_neg (by omega)] at h9
        have := SK p1; have := SK p2
        show bz t + bz y + p + 1 ≤ _
        omega
      have s1 := SK (sk tx n p + 1)
      have s2 := SK (sk tx n (sk tx n p + 1) + 1)
      split at h
      · split at h
        · rename_i hl
          split at h
          · rcases et_some h with ⟨_, h⟩ | ⟨_, h⟩
            · cases h
            rcases bd_some h with ⟨_, h⟩ | ⟨t, p1, b1, h1, h⟩
            · cases h
            cases h
            have := E0 _ _ _ _ _ _ _ h1
            show bz t + 1 + p + 1 ≤ _
            omega
          · rcases et_some h with ⟨_, h⟩ | ⟨_, h⟩
            · cases h
            have s3 := SK (sk tx n (sk tx n (sk tx n p + 1) + 1) + 1)
            split at h
            · split at h
              · rename_i hc
                rcases bd_some h with ⟨_, h⟩ | ⟨t, p1, b1, h1, h⟩
                · cases h
                rcases et_some h with ⟨_, h⟩ | ⟨_, h⟩
                · cases h
                rcases bd_some h with ⟨_, h⟩ | ⟨y, p2, b2, h2, h⟩
                · cases h
                cases h
                have := E0 _ _ _ _ _ _ _ h1; have := E0 _ _ _ _ _ _ _ h2
                have := SK p1
                show bz t + bz y + 1 + p + 1 ≤ _
                omega
              · cases h
            · rcases bd_some h with ⟨_, h⟩ | ⟨t, p1, b1, h1, h⟩
              · cases h
              rcases et_some h with ⟨_, h⟩ | ⟨_, h⟩
              · cases h
              rcases bd_some h with ⟨_, h⟩ | ⟨y, p2, b2, h2, h⟩
              · cases h
              cases h
              have := E0 _ _ _ _ _ _ _ h1; have := E0 _ _ _ _ _ _ _ h2
              have := SK p1
              show bz t + bz y + 1 + p + 1 ≤ _
              omega
        · cases h
      · have := E 1 _ _ _ _ _ _ _ (by omega) h; omega
    | 1 =>
      show bz e + p + 1 ≤ p' + 0
      rw [PR_1] at h
      rcases bd_some h with ⟨_, h⟩ | ⟨t, p1, b1, h1, h⟩
      · cases h
      have := E 2 _ _ _ _ _ _ _ (by omega) h1
      have := SK p1
      split at h
      · rcases bd_some h with ⟨_, h⟩ | ⟨y, p2, b2, h2, h⟩
        · cases h
        cases h
        have := E 1 _ _ _ _ _ _ _ (by omega) h2
        show bz t + bz y + p + 1 ≤ _
        omega
      · cases h; omega
    | 2 =>
      show bz e + p + 1 ≤ p' + 0
      rw [PR_2] at h
      rcases bd_some h with ⟨_, h⟩ | ⟨t, p1, b1, h1, h⟩
      · cases h
      have := E 3 _ _ _ _ _ _ _ (by omega) h1
      have := sgn_p (tx := tx) (n := n) (p := p1) (k := 0)
      split at h
      · cases h; omega
      · rcases bd_some h with ⟨_, h⟩ | ⟨y, p2, b2, h2, h⟩
        · cases h
        cases h
        have := E 3 _ _ _ _ _ _ _ (by omega) h2
        show bz t + bz y + p + 1 ≤ _
        omega
    | 3 =>
      show bz e + p + 1 ≤ p' + 0
      rw [PR_3] at h
      rcases bd_some h with ⟨_, h⟩ | ⟨t, p1, b1, h1, h⟩
      · cases h
      have := E 4 _ _ _ _ _ _ _ (by omega) h1
      have := EL 13 _ _ _ _ _ _ _ (by omega) h
      omega
    | 4 =>
      show bz e + p + 1 ≤ p' + 0
      rw [PR_4] at h
      rcases bd_some h with ⟨_, h⟩ | ⟨t, p1, b1, h1, h⟩
      · cases h
      have := E 5 _ _ _ _ _ _ _ (by omega) h1
      have := EL 14 _ _ _ _ _ _ _ (by omega) h
      omega
    | 5 =>
      show bz e + p + 1 ≤ p' + 0
      rw [PR_5] at h
      rcases bd_some h with ⟨_, h⟩ | ⟨t, p1, b1, h1, h⟩
      · cases h
      have := E 6 _ _ _ _ _ _ _ (by omega) h1
      have := EL 15 _ _ _ _ _ _ _ (by omega) h
      omega
    | 13 =>
      show bz e + p + 0 ≤ p' + bz acc
      rw [PR_13] at h
      have := sgn_p (tx := tx) (n := n) (p := p) (k := 1)
      split at h
      · cases h; omega
      · rcases bd_some h with ⟨_, h⟩ | ⟨t, p1, b1, h1, h⟩
        · cases h
        have := E 4 _ _ _ _ _ _ _ (by omega) h1
        have h2 := EL 13 _ _ _ _ _ _ _ (by omega) h
        have h2 : bz e + p1 ≤ p' + (bz acc + bz t) := h2
        omega
    | 14 =>
      show bz e + p + 0 ≤ p' + bz acc
      rw [PR_14] at h
      have := sgn_p (tx := tx) (n := n) (p := p) (k := 2)
      split at h
      · cases h; omega
      · rcases bd_some h with ⟨_, h⟩ | ⟨t, p1, b1, h1, h⟩
        · cases h
        have := E 5 _ _ _ _ _ _ _ (by omega) h1
        have h2 := EL 14 _ _ _ _ _ _ _ (by omega) h
        have h2 : bz e + p1 ≤ p' + (bz acc + bz t) := h2
        omega
    | 15 =>
      show bz e + p + 0 ≤ p' + bz acc
      rw [PR_15] at h
      have := SK p
      split at h
      · rcases bd_some h with ⟨_, h⟩ | ⟨t, p1, b1, h1, h⟩
        · cases h
        have := E 6 _ _ _ _ _ _ _ (by omega) h1
        have h2 := EL 15 _ _ _ _ _ _ _ (by omega) h
        have h2 : bz e + p1 ≤ p' + (bz acc + bz t) := h2
        omega
      · cases h; omega
    | 6 =>
      show bz e + p + 1 ≤ p' + 0
      rw [PR_6] at h
      have := SK p
      split at h
      case isFalse => cases h
      rename_i hb
      split at h
      · split at h
        · cases h
        · rename_i v p1 hv
          have w1 := dgs_i (by decide) hv
          split at h
          · split at h
            · cases h
            · rename_i v2 p2 hv2
              have w2 := dgs_i (by decide) hv2
              cases h
              show 0 + p + 1 ≤ _
              omega
          · cases h
            show 0 + p + 1 ≤ _
            omega
      split at h
      · cases h; show 0 + p + 1 ≤ _; omega
      split at h
      · cases h; show 0 + p + 1 ≤ _; omega
      split at h
      · cases h; show 0 + p + 1 ≤ _; omega
      split at h
      · cases h; show 0 + p + 1 ≤ _; omega
      split at h
      · rcases bd_some h with ⟨_, h⟩ | ⟨t, p1, b1, h1, h⟩
        · cases h
        cases h
        have := E 6 _ _ _ _ _ _ _ (by omega) h1
        show bz t + p + 1 ≤ _
        omega
      split at h
      · split at h
        · cases h; show 0 + p + 1 ≤ _; omega
        · cases h
      split at h
      · rcases bd_some h with ⟨_, h⟩ | ⟨t, p1, b1, h1, h⟩
        · cases h
        rcases et_some h with ⟨_, h⟩ | ⟨_, h⟩
        · cases h
        cases h
        have := E0 _ _ _ _ _ _ _ h1
        have := SK p1
        omega
      · cases h; show 0 + p + 1 ≤ _; omega
    | 7 =>
      show (pv e).length + p + 0 ≤ p' + 0
      rw [PR_7] at h
      split at h
      · cases h
      · rcases bd_some h with ⟨_, h⟩ | ⟨q, p1, b1, h1, h2⟩
        · cases h
        · have := P 8 _ _ _ _ _ _ _ (by omega) h1
          have := SK p1
          split at h2
          · rcases bd_some h2 with ⟨_, h⟩ | ⟨q', p2, b2, h3, h4⟩
            · cases h
            · have := P 7 _ _ _ _ _ _ _ (by omega) h3
              cases h4
              show (pv q ++ pv q').length + p + 0 ≤ _
              rw [List.length_append]
              omega
          · cases h2; omega
    | 8 =>
      show (pv e).length + p + 0 ≤ p' + 0
      have := SK p
      rw [PR_8] at h
      split at h
      · split at h
        · cases h
        · rename_i v p1 hv
          have w1 := dgs_i (by decide) hv
          cases h
          show 0 + p + 0 ≤ _
          omega
      split at h
      · cases h; show 0 + p + 0 ≤ _; omega
      split at h
      · cases h; show 0 + p + 0 ≤ _; omega
      split at h
      · cases h; show 0 + p + 0 ≤ _; omega
      split at h
      · split at h
        · cases h; show 0 + p + 0 ≤ _; omega
        · cases h
      split at h
      · rcases bd_some h with ⟨_, h⟩ | ⟨q, p1, b1, h1, h2⟩
        · cases h
        · rcases et_some h2 with ⟨_, h⟩ | ⟨_, h3⟩
          · cases h
          · cases h3
            have := P 7 _ _ _ _ _ _ _ (by omega) h1
            have := SK p1
            omega
      split at h
      · rename_i hl
        split at h
        · cases h
        · cases h
          have : (pv (pAny (nat (hr tx n (sk tx n p))))).length ≤ 1 := by
            show (if _ then [] else [nat (hr tx n (sk tx n p))]).length ≤ 1
            split <;> simp
          omega
      · cases h
    | 9 =>
      show bz e + p + 1 ≤ p' + 0
      rw [PR_9] at h
      split at h
      · rename_i cn
        split at h
        · cases h
        · rcases bd_some h with ⟨_, h⟩ | ⟨q, p1, b1, h1, h⟩
          · cases h
          have := P 7 _ _ _ _ _ _ _ (by omega) h1
          have := SK p1
          rcases et_some h with ⟨_, h⟩ | ⟨_, h⟩
          · cases h
          rcases bd_some h with ⟨_, h⟩ | ⟨y, p2, b2, h2, h⟩
          · cases h
          have := E0 _ _ _ _ _ _ _ h2
          have := SK p2
          split at h
          · rcases bd_some h with ⟨_, h⟩ | ⟨z, p3, b3, h3, h⟩
            · cases h
            have h9 := ih 9 _ _ _ _ _ _ _ h3
            rw [bG_e (by omega), if_neg (by omega), if_neg (by omega)] at h9
            cases h
            show (pv q).length + bz y + bz z + p + 1 ≤ _
            omega
          · cases h
            show (pv q).length + bz y + 0 + p + 1 ≤ _
            omega
      · cases h
    | 10 => cases h
    | 11 => cases h
    | 12 => cases h
    | g + 16 => cases h
end MB
