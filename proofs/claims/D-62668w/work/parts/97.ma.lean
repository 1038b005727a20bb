/-! THE TREES that are read: letters, small numbers, known signs -/
set_option maxRecDepth 100000
def lc (c : Nat) : Prop := 97 ≤ c ∧ c < 123
def oc (o : Nat) : Prop := o = 44 ∨ o = 60 ∨ o = 61 ∨ o = 43 ∨ o = 45 ∨ o = 42 ∨ o = 47 ∨ o = 188 ∨ o = 171 ∨ o = 173 ∨ o = 170 ∨ o = 175
def PC : tE → Prop
  | .var c => (show Nat from c) = 0 ∨ lc c
  | .pow (.natCast v) k => (k = 2 ∨ k = 3 ∨ k = 4) ∧ v < 10000 ∧ (k = 3 → v < 2) ∧ (k = 4 → v = 0)
  | .mul q r => PC q ∧ PC r
  | _ => False
/-- expressions (false) and clauses (true) -/
def EB : tE → Bool → Prop
  | .pow (.natCast v) k, false => k ≤ 4 ∧ v < 10000000 ∧ (k = 0 → v < 10000) ∧ (k = 1 → v < 2) ∧ (k = 3 → v = 0) ∧ (k = 4 → v = 82 ∨ v = 73)
  | .var c, false => lc c
  | .pow (.neg b) c, false => lc c ∧ EB b false
  | .mul f a, false => EB f false ∧ EB a false
  | .pow (.add l r) o, false => oc o ∧ EB l false ∧ EB r false
  | .neg r, false => EB r false
  | .sub t (.add y z), false => EB t false ∧ EB y false ∧ EB z false
  | .pow (.sub w i) c, false => lc c ∧ EB w false ∧ EB i false
  | .pow (.mul w i) c, false => lc c ∧ (∃ x b, w = .pow (.neg b) x) ∧ EB w false ∧ EB i false
  | .add w cl, false => EB w false ∧ (∃ q e r, cl = .sub q (.sub e r)) ∧ EB cl true
  | .sub q (.sub e r), true => PC q ∧ EB e false ∧ EB r true
  | .natCast _, true => True
  | _, _ => False
section MA
variable {tx : Nat → Int32} {n p p1 : Nat} {c v : Int32}
theorem lt_c (h : lt c = true) : lc (nat c) := by
  unfold lt at h
  simp only [Bool.and_eq_true, Bool.not_eq_true', decide_eq_false_iff_not] at h
  have h2 : c ≤ 122 := Int32.not_lt.mp h.2
  have h1 : (97 : Int32) ≤ c := Int32.not_lt.mp h.1
  rw [Int32.le_iff_toInt_le] at h1 h2
  have e1 : (97 : Int32).toInt = 97 := by decide
  have e2 : (122 : Int32).toInt = 122 := by decide
  unfold lc nat
  have : c.toNatClampNeg = c.toInt.toNat := rfl
  omega
theorem dgs_w {k : Nat} (hk : k ≤ 4) (h : dgs tx n k p = some (v, p1)) : nat v < 10 ^ k ∧ nat v < 10 ^ (p1 - p) ∧ p1 - p ≤ k := by
  obtain ⟨h1, h2, a, h3, h4⟩ := dgs_i (by omega) h
  have h5 : 10 ^ (p1 - p) ≤ 10 ^ k := Nat.pow_le_pow_right (by decide) (by omega)
  have h5' : 10 ^ k ≤ 10 ^ 4 := Nat.pow_le_pow_right (by decide) hk
  have h6 : nat v = a := by
    rw [h3]
    exact i32_nat (by omega)
  rw [h6]
  exact ⟨by omega, h4, by omega⟩
theorem sgn_o {k : Nat} (hk : k < 3) (h : ¬ (sgn tx n k p).1 = 0) : oc (nat (sgn tx n k p).1) := by
  have hk3 : k = 0 ∨ k = 1 ∨ k = 2 := by omega
  cases hs : sgt k (hr tx n (sk tx n p)) with
  | false => rw [sgn_n hs] at h; exact absurd rfl h
  | true =>
    rw [sgn_y hs]
    dsimp only
    generalize hr tx n (sk tx n p) = x at hs ⊢
    have hx' : x = 60 ∨ x = 61 ∨ x = 43 ∨ x = 45 ∨ x = 42 ∨ x = 47 := by
      unfold sgt at hs
      rcases hk3 with rfl | rfl | rfl <;> simp at hs <;> rcases hs with h | h <;> simp [h]
    rcases hx' with rfl | rfl | rfl | rfl | rfl | rfl <;> split <;> first | (unfold oc; decide) | (rename_i z; exact absurd rfl z.2)
def GB (g : Nat) (e : tE) : Prop := if g = 7 ∨ g = 8 then PC e else if g = 9 then EB e true ∧ ∃ q x r, e = .sub q (.sub x r) else EB e false
theorem GB.e {g : Nat} {e : tE} (h : GB g e) (h1 : ¬ (g = 7 ∨ g = 8)) (h2 : ¬ g = 9) : EB e false := by unfold GB at h; rw [if_neg h1, if_neg h2] at h; exact h
theorem GB.of {g : Nat} {e : tE} (h : EB e false) (h1 : ¬ (g = 7 ∨ g = 8)) (h2 : ¬ g = 9) : GB g e := by unfold GB; rw [if_neg h1, if_neg h2]; exact h
theorem PR_fn {f dep : Nat} {bn b : Int32} {acc e : tE} {p' : Nat} (hc : hr tx n (sk tx n p) = 92) (h : PR tx n f 0 p dep bn acc = some (some (e, p', b))) : ∃ x y, e = .pow (.neg y) x := by
  cases f with
  | zero => cases h
  | succ f =>
    rw [PR_0, hc] at h
    split at h
    · cases h
    rw [if_neg (by decide), if_neg (by decide), if_pos (.inl rfl)] at h
    split at h
    · rw [if_pos rfl] at h
      rcases et_some h with ⟨_, h⟩ | ⟨_, h⟩
      · cases h
      · rcases bd_some h with ⟨_, h⟩ | ⟨e1, p2, b2, _, h⟩
        · cases h
        · cases h; exact ⟨_, _, rfl⟩
    · cases h
theorem PR_eb : ∀ (f g p dep : Nat) (bn : Int32) (acc e : tE) (p' : Nat) (b : Int32), ((g = 13 ∨ g = 14 ∨ g = 15) → EB acc false) → PR tx n f g p dep bn acc = some (some (e, p', b)) → GB g e := by
  intro f
  induction f with
  | zero => intro g p dep bn acc e p' b _ h; cases h
  | succ f ih =>
    intro g p dep bn acc e p' b hacc h
    have E0 : ∀ p dep bn acc e p' b, PR tx n f 0 p dep bn acc = some (some (e, p', b)) → EB e false := fun p dep bn acc e p' b h => (ih 0 p dep bn acc e p' b (by omega) h).e (by omega) (by omega)
    match g with
    | 0 =>
      refine .of ?_ (by omega) (by omega)
      rw [PR_0] at h
      split at h
      · cases h
      split at h
      · rcases bd_some h with ⟨_, h⟩ | ⟨t, p1, b1, h1, h⟩
        · cases h
        rcases et_some h with ⟨_, h⟩ | ⟨_, h⟩
        · cases h
        rcases bd_some h with ⟨_, h⟩ | ⟨y, p2, b2, h2, h⟩
        · cases h
        rcases et_some h with ⟨_, h⟩ | ⟨_, h⟩
        · cases h
        rcases bd_some h with ⟨_, h⟩ | ⟨z, p3, b3, h3, h⟩
        · cases h
        cases h
        exact ⟨E0 _ _ _ _ _ _ _ h1, E0 _ _ _ _ _ _ _ h2, E0 _ _ _ _ _ _ _ h3⟩
      split at h
      · rcases bd_some h with ⟨_, h⟩ | ⟨t, p1, b1, h1, h⟩
        · cases h
        rcases et_some h with ⟨_, h⟩ | ⟨_, h⟩
        · cases h
        rcases bd_some h with ⟨_, h⟩ | ⟨y, p2, b2, h2, h⟩
        · cases h
        rcases et_some h with ⟨_, h⟩ | ⟨_, h⟩
        · cases h
        cases h
        have := ih 9 _ _ _ _ _ _ _ (by omega) h2
        unfold GB at this
        rw [if_neg (by omega), if_pos rfl] at this
        exact ⟨E0 _ _ _ _ _ _ _ h1, this.2, this.1⟩
      split at h
      · split at h
        · rename_i hl
          have hlc := lt_c hl
          split at h
          · rcases et_some h with ⟨_, h⟩ | ⟨_, h⟩
            · cases h
            rcases bd_some h with ⟨_, h⟩ | ⟨t, p1, b1, h1, h⟩
            · cases h
            cases h
            exact ⟨hlc, E0 _ _ _ _ _ _ _ h1⟩
          · rcases et_some h with ⟨_, h⟩ | ⟨_, h⟩
            · cases h
            split at h
            · split at h
              · rename_i hc
                rcases bd_some h with ⟨_, h⟩ | ⟨t, p1, b1, h1, h⟩
                · cases h
                rcases et_some h with ⟨_, h⟩ | ⟨_, h⟩
                · cases h
                rcases bd_some h with ⟨_, h⟩ | ⟨y, p2, b2, h2, h⟩
                · cases h
                cases h
                exact ⟨hlc, PR_fn (by rw [sk_sk]; exact hc) h1, E0 _ _ _ _ _ _ _ h1, E0 _ _ _ _ _ _ _ h2⟩
              · cases h
            · rcases bd_some h with ⟨_, h⟩ | ⟨t, p1, b1, h1, h⟩
              · cases h
              rcases et_some h with ⟨_, h⟩ | ⟨_, h⟩
              · cases h
              rcases bd_some h with ⟨_, h⟩ | ⟨y, p2, b2, h2, h⟩
              · cases h
              cases h
              exact ⟨hlc, E0 _ _ _ _ _ _ _ h1, E0 _ _ _ _ _ _ _ h2⟩
        · cases h
      · exact (ih 1 _ _ _ _ _ _ _ (by omega) h).e (by omega) (by omega)
    | 1 =>
      refine .of ?_ (by omega) (by omega)
      rw [PR_1] at h
      rcases bd_some h with ⟨_, h⟩ | ⟨t, p1, b1, h1, h⟩
      · cases h
      have e1 := (ih 2 _ _ _ _ _ _ _ (by omega) h1).e (by omega) (by omega)
      split at h
      · rcases bd_some h with ⟨_, h⟩ | ⟨y, p2, b2, h2, h⟩
        · cases h
        cases h
        exact ⟨.inl rfl, e1, (ih 1 _ _ _ _ _ _ _ (by omega) h2).e (by omega) (by omega)⟩
      · cases h; exact e1
    | 2 =>
      refine .of ?_ (by omega) (by omega)
      rw [PR_2] at h
      rcases bd_some h with ⟨_, h⟩ | ⟨t, p1, b1, h1, h⟩
      · cases h
      have e1 := (ih 3 _ _ _ _ _ _ _ (by omega) h1).e (by omega) (by omega)
      split at h
      · cases h; exact e1
      · rename_i hs
        rcases bd_some h with ⟨_, h⟩ | ⟨y, p2, b2, h2, h⟩
        · cases h
        cases h
        exact ⟨sgn_o (by omega) hs, e1, (ih 3 _ _ _ _ _ _ _ (by omega) h2).e (by omega) (by omega)⟩
    | 3 =>
      refine .of ?_ (by omega) (by omega)
      rw [PR_3] at h
      rcases bd_some h with ⟨_, h⟩ | ⟨t, p1, b1, h1, h⟩
      · cases h
      have e1 := (ih 4 _ _ _ _ _ _ _ (by omega) h1).e (by omega) (by omega)
      exact (ih 13 _ _ _ _ _ _ _ (fun _ => e1) h).e (by omega) (by omega)
    | 4 =>
      refine .of ?_ (by omega) (by omega)
      rw [PR_4] at h
      rcases bd_some h with ⟨_, h⟩ | ⟨t, p1, b1, h1, h⟩
      · cases h
      have e1 := (ih 5 _ _ _ _ _ _ _ (by omega) h1).e (by omega) (by omega)
      exact (ih 14 _ _ _ _ _ _ _ (fun _ => e1) h).e (by omega) (by omega)
    | 5 =>
      refine .of ?_ (by omega) (by omega)
      rw [PR_5] at h
      rcases bd_some h with ⟨_, h⟩ | ⟨t, p1, b1, h1, h⟩
      · cases h
      have e1 := (ih 6 _ _ _ _ _ _ _ (by omega) h1).e (by omega) (by omega)
      exact (ih 15 _ _ _ _ _ _ _ (fun _ => e1) h).e (by omega) (by omega)
    | 13 =>
      refine .of ?_ (by omega) (by omega)
      rw [PR_13] at h
      split at h
      · cases h; exact hacc (by omega)
      · rename_i hs
        rcases bd_some h with ⟨_, h⟩ | ⟨t, p1, b1, h1, h⟩
        · cases h
        have e1 := (ih 4 _ _ _ _ _ _ _ (by omega) h1).e (by omega) (by omega)
        have e2 : EB (eOp (nat (sgn tx n 1 p).1) acc t) false := ⟨sgn_o (by omega) hs, hacc (by omega), e1⟩
        exact (ih 13 _ _ _ _ _ _ _ (fun _ => e2) h).e (by omega) (by omega)
    | 14 =>
      refine .of ?_ (by omega) (by omega)
      rw [PR_14] at h
      split at h
      · cases h; exact hacc (by omega)
      · rename_i hs
        rcases bd_some h with ⟨_, h⟩ | ⟨t, p1, b1, h1, h⟩
        · cases h
        have e1 := (ih 5 _ _ _ _ _ _ _ (by omega) h1).e (by omega) (by omega)
        have e2 : EB (eOp (nat (sgn tx n 2 p).1) acc t) false := ⟨sgn_o (by omega) hs, hacc (by omega), e1⟩
        exact (ih 14 _ _ _ _ _ _ _ (fun _ => e2) h).e (by omega) (by omega)
    | 15 =>
      refine .of ?_ (by omega) (by omega)
      rw [PR_15] at h
      split at h
      · rcases bd_some h with ⟨_, h⟩ | ⟨t, p1, b1, h1, h⟩
        · cases h
        have e1 := (ih 6 _ _ _ _ _ _ _ (by omega) h1).e (by omega) (by omega)
        have e2 : EB (eApp acc t) false := ⟨hacc (by omega), e1⟩
        exact (ih 15 _ _ _ _ _ _ _ (fun _ => e2) h).e (by omega) (by omega)
      · cases h; exact hacc (by omega)
    | 6 =>
      refine .of ?_ (by omega) (by omega)
      rw [PR_6] at h
      split at h
      case isFalse => cases h
      rename_i hb
      split at h
      · split at h
        · cases h
        · rename_i v p1 hv
          have w1 := dgs_w (by decide) hv
          split at h
          · split at h
            · cases h
            · rename_i v2 p2 hv2
              have w2 := dgs_w (by decide) hv2
              cases h
              refine ⟨by omega, ?_, by omega, by omega, by omega, by omega⟩
              have w4 : 10 ^ (p' - (p1 + 1)) * 10 ^ (3 - (p' - (p1 + 1))) = 10 ^ 3 := by rw [← Nat.pow_add]; congr 1; omega
              have w5 : (nat v2 + 1) * 10 ^ (3 - (p' - (p1 + 1))) ≤ 10 ^ (p' - (p1 + 1)) * 10 ^ (3 - (p' - (p1 + 1))) := Nat.mul_le_mul_right _ (by omega)
              rw [Nat.add_mul, w4, Nat.one_mul] at w5
              have w6 : 0 < 10 ^ (3 - (p' - (p1 + 1))) := Nat.pow_pos (by decide)
              have := w1.1
              omega
          · cases h
            have := w1.1
            exact ⟨by omega, by omega, by omega, by omega, by omega, by omega⟩
      split at h
      · cases h; exact ⟨by omega, by omega, by omega, by omega, by omega, by omega⟩
      split at h
      · cases h; exact ⟨by omega, by omega, by omega, by omega, by omega, by omega⟩
      split at h
      · cases h; exact ⟨by omega, by omega, by omega, by omega, by omega, by omega⟩
      split at h
      · cases h; exact ⟨by omega, by omega, by omega, by omega, by omega, by omega⟩
      split at h
      · rcases bd_some h with ⟨_, h⟩ | ⟨t, p1, b1, h1, h⟩
        · cases h
        cases h
        exact (ih 6 _ _ _ _ _ _ _ (by omega) h1).e (by omega) (by omega)
      split at h
      · split at h
        · cases h; exact ⟨by omega, by omega, by omega, by omega, by omega, by omega⟩
        · cases h
      split at h
      · rcases bd_some h with ⟨_, h⟩ | ⟨t, p1, b1, h1, h⟩
        · cases h
        rcases et_some h with ⟨_, h⟩ | ⟨_, h⟩
        · cases h
        cases h
        exact E0 _ _ _ _ _ _ _ h1
      · rename_i hd h84 h70 h82 h73 h126 h91 h40
        cases h
        refine lt_c (c := hr tx n (sk tx n p)) ?_
        unfold bg at hb
        simp_all
    | 7 =>
      unfold GB
      rw [if_pos (.inl rfl)]
      rw [PR_7] at h
      split at h
      · cases h
      · rcases bd_some h with ⟨_, h⟩ | ⟨q, p1, b1, h1, h2⟩
        · cases h
        · have hq := ih 8 _ _ _ _ _ _ _ (by omega) h1
          unfold GB at hq
          rw [if_pos (.inr rfl)] at hq
          split at h2
          · rcases bd_some h2 with ⟨_, h⟩ | ⟨q', p2, b2, h3, h4⟩
            · cases h
            · have hq' := ih 7 _ _ _ _ _ _ _ (by omega) h3
              unfold GB at hq'
              rw [if_pos (.inl rfl)] at hq'
              cases h4
              exact ⟨hq, hq'⟩
          · cases h2; exact hq
    | 8 =>
      unfold GB
      rw [if_pos (.inr rfl)]
      rw [PR_8] at h
      split at h
      · split at h
        · cases h
        · rename_i v p1 hv
          cases h
          have := (dgs_w (by decide) hv).1
          exact ⟨.inl rfl, this, by omega, by omega⟩
      split at h
      · cases h; exact ⟨.inr (.inl rfl), by omega, by omega, by omega⟩
      split at h
      · cases h; exact ⟨.inr (.inl rfl), by omega, by omega, by omega⟩
      split at h
      · cases h; exact .inl rfl
      split at h
      · split at h
        · cases h; exact ⟨.inr (.inr rfl), by omega, by omega, by omega⟩
        · cases h
      split at h
      · rcases bd_some h with ⟨_, h⟩ | ⟨q, p1, b1, h1, h2⟩
        · cases h
        · rcases et_some h2 with ⟨_, h⟩ | ⟨_, h3⟩
          · cases h
          · cases h3
            have := ih 7 _ _ _ _ _ _ _ (by omega) h1
            unfold GB at this
            rw [if_pos (.inl rfl)] at this
            exact this
      split at h
      · rename_i hl
        split at h
        · cases h
        · cases h; exact .inr (lt_c hl)
      · cases h
    | 9 =>
      unfold GB
      rw [if_neg (by omega), if_pos rfl]
      rw [PR_9] at h
      split at h
      · rename_i cn
        split at h
        · cases h
        · rcases bd_some h with ⟨_, h⟩ | ⟨q, p1, b1, h1, h⟩
          · cases h
          have hq := ih 7 _ _ _ _ _ _ _ (by omega) h1
          unfold GB at hq
          rw [if_pos (.inl rfl)] at hq
          rcases et_some h with ⟨_, h⟩ | ⟨_, h⟩
          · cases h
          rcases bd_some h with ⟨_, h⟩ | ⟨y, p2, b2, h2, h⟩
          · cases h
          have he := E0 _ _ _ _ _ _ _ h2
          split at h
          · rcases bd_some h with ⟨_, h⟩ | ⟨z, p3, b3, h3, h⟩
            · cases h
            have hr := ih 9 _ _ _ _ _ _ _ (by omega) h3
            unfold GB at hr
            rw [if_neg (by omega), if_pos rfl] at hr
            cases h
            exact ⟨⟨hq, he, hr.1⟩, _, _, _, rfl⟩
          · cases h
            exact ⟨⟨hq, he, trivial⟩, _, _, _, rfl⟩
      · cases h
    | 10 => cases h
    | 11 => cases h
    | 12 => cases h
    | g + 16 => cases h
end MA
