/-! FunDesk: a type that was made gets its parts -/
set_option maxRecDepth 100000
section THH
variable {d : Nat} {D D' D'' : sS} {Q : am_O → am_H → Prop} {a b c l srt N v x y k : Nat} {G : tG} {tm tm' : Nat → tE} {ρ : Nat → Nat} {one two cp r t : Option Nat} {lv st : Int32} {L L' L'' : Nat → Int32} {V : Nat → tE}
/-- variables of a type are types -/
theorem TH.isv (h : TH D G tm ρ) : ∀ (k j a : Nat), ty_w (tm a) ≤ k → ρ a ≤ j → isT D a → ∀ x, ty_h x (tm a) → isT D x := by
  intro k
  induction k with
  | zero => intro j a hk; have := ty_w1 (t := tm a); omega
  | succ k ihk =>
    intro j
    induction j with
    | zero =>
      intro a hk hj ha x hx
      obtain ⟨srt, one, two, cp, lv, st, ht⟩ := ha
      by_cases hn : srt = 0 → one = none
      · rcases h.rl ht hn with ⟨_, _, e⟩ | ⟨_, e⟩ | ⟨_, e⟩ | ⟨_, e⟩ | ⟨_, b, _, e1, e⟩ | ⟨_, b, c, _, _, e1, e2, e⟩
        · rw [e] at hx
          have : a = x := Nat.add_right_cancel (show a + 3 = x + 3 from hx)
          subst this; exact ⟨_, _, _, _, _, _, ht⟩
        · rw [e] at hx; have z : 0 = x + 3 := hx; omega
        · rw [e] at hx; have z : 1 = x + 3 := hx; omega
        · rw [e] at hx; have z : 2 = x + 3 := hx; omega
        · rw [e] at hx hk
          exact ihk _ b (by have hk : ty_w (tm b) + 2 ≤ k + 1 := hk; omega) (Nat.le_refl _) e1 x hx
        · rw [e] at hx hk
          have hk : ty_w (tm b) + ty_w (tm c) + 3 ≤ k + 1 := hk
          rcases hx with hx | hx
          · exact ihk _ b (by omega) (Nat.le_refl _) e1 x hx
          · exact ihk _ c (by omega) (Nat.le_refl _) e2 x hx
      · have h1 : srt = 0 := Classical.byContradiction fun z => hn fun y => absurd y z
        have h2 : ¬ one = none := fun z => hn fun _ => z
        subst h1
        obtain ⟨b, rfl⟩ := Option.ne_none_iff_exists'.mp h2
        have := (h.fw ht).2.2
        omega
    | succ j ihj =>
      intro a hk hj ha x hx
      obtain ⟨srt, one, two, cp, lv, st, ht⟩ := ha
      by_cases hn : srt = 0 → one = none
      · rcases h.rl ht hn with ⟨_, _, e⟩ | ⟨_, e⟩ | ⟨_, e⟩ | ⟨_, e⟩ | ⟨_, b, _, e1, e⟩ | ⟨_, b, c, _, _, e1, e2, e⟩
        · rw [e] at hx
          have : a = x := Nat.add_right_cancel (show a + 3 = x + 3 from hx)
          subst this; exact ⟨_, _, _, _, _, _, ht⟩
        · rw [e] at hx; have z : 0 = x + 3 := hx; omega
        · rw [e] at hx; have z : 1 = x + 3 := hx; omega
        · rw [e] at hx; have z : 2 = x + 3 := hx; omega
        · rw [e] at hx hk
          exact ihk _ b (by have hk : ty_w (tm b) + 2 ≤ k + 1 := hk; omega) (Nat.le_refl _) e1 x hx
        · rw [e] at hx hk
          have hk : ty_w (tm b) + ty_w (tm c) + 3 ≤ k + 1 := hk
          rcases hx with hx | hx
          · exact ihk _ b (by omega) (Nat.le_refl _) e1 x hx
          · exact ihk _ c (by omega) (Nat.le_refl _) e2 x hx
      · have h1 : srt = 0 := Classical.byContradiction fun z => hn fun y => absurd y z
        have h2 : ¬ one = none := fun z => hn fun _ => z
        subst h1
        obtain ⟨b, rfl⟩ := Option.ne_none_iff_exists'.mp h2
        obtain ⟨f1, f2, f3⟩ := h.fw ht
        rw [f2] at hx hk
        exact ihj b hk (by omega) f1 x hx
theorem TH.vT (h : TH D G tm ρ) (ha : isT D a) (hx : ty_h x (tm a)) : isT D x := h.isv _ _ a (Nat.le_refl _) (Nat.le_refl _) ha x hx
/-- a raw object becomes a list or a function -/
theorem TH.init {o : am_C} {z : Nat × Nat × Nat} {u : tE} (h : TH D G tm ρ) (hc : ¬ isT D c) (hcl : c < 82 + gN D) (ho : gO D c = some o) (hk : nK D tm c srt one two z u) (hs : ¬ srt = 0) : TH (sG D c (.inr (2, [.ref srt, va_rf one, va_rf two, va_rf cp, .int lv, .int st]))) (upf G c z) (upf tm c u) ρ ∧ (∀ b, isT (sG D c (.inr (2, [.ref srt, va_rf one, va_rf two, va_rf cp, .int lv, .int st]))) b ↔ isT D b ∨ b = c) ∧ TY (sG D c (.inr (2, [.ref srt, va_rf one, va_rf two, va_rf cp, .int lv, .int st]))) c srt one two cp lv st := by
  have hob : ∀ b, gO (sG D c (.inr (2, [.ref srt, va_rf one, va_rf two, va_rf cp, .int lv, .int st]))) b = if b = c then some (.inr (2, [.ref srt, va_rf one, va_rf two, va_rf cp, .int lv, .int st])) else gO D b := fun b => gO_sG ho
  have hTN : TY (sG D c (.inr (2, [.ref srt, va_rf one, va_rf two, va_rf cp, .int lv, .int st]))) c srt one two cp lv st := by
    unfold TY; rw [hob, if_pos rfl]
  have hist : ∀ b, isT (sG D c (.inr (2, [.ref srt, va_rf one, va_rf two, va_rf cp, .int lv, .int st]))) b ↔ isT D b ∨ b = c := by
    intro b
    by_cases hb : b = c
    · subst hb
      exact ⟨fun _ => .inr rfl, fun _ => ⟨_, _, _, _, _, _, hTN⟩⟩
    · rw [or_iff_left hb]; unfold isT TY; rw [hob, if_neg hb]
  have hne : ∀ b, isT D b → ¬ b = c := fun b hb z => hc (z ▸ hb)
  have hz6 : ¬ z.1 = 6 ∧ ¬ z.1 = 0 := by
    rcases hk with ⟨e, _⟩ | ⟨_, b, _, _, rfl, _⟩ | ⟨_, b, c', _, _, _, _, rfl, _⟩
    · exact absurd e hs
    · exact ⟨by show ¬ (4 : Nat) = 6; decide, by show ¬ (4 : Nat) = 0; decide⟩
    · exact ⟨by show ¬ (5 : Nat) = 6; decide, by show ¬ (5 : Nat) = 0; decide⟩
  refine ⟨⟨?_, fun a srt' one' two' cp' lv' st' ht => ?_, fun a ha => ?_⟩, hist, hTN⟩
  · show TG (upf G c z) (82 + gN D) (upf tm c u) ρ
    intro a hal
    by_cases hac : a = c
    · subst hac
      rw [upf_eq]
      rcases hk with ⟨e, _⟩ | ⟨_, b, _, hb, rfl, rfl⟩ | ⟨_, b, c', _, _, hb, hc', rfl, rfl⟩
      · exact absurd e hs
      · have hbl := h.lt hb
        have hbn := hne b hb
        refine ⟨by show 4 ≤ 6; decide, fun z => ?_, fun z => ?_, fun z => ?_, fun z => ?_, fun _ => ⟨hbl, ?_⟩, fun z => ?_, fun z => ?_⟩ <;> try (cases z; done)
        rw [upf_eq, upf_ne hbn]
      · have hbl := h.lt hb
        have hcl' := h.lt hc'
        refine ⟨by show 5 ≤ 6; decide, fun z => ?_, fun z => ?_, fun z => ?_, fun z => ?_, fun z => ?_, fun _ => ⟨hbl, hcl', ?_⟩, fun z => ?_⟩ <;> try (cases z; done)
        rw [upf_eq, upf_ne (hne b hb), upf_ne (hne c' hc')]
    · rw [upf_ne hac]
      by_cases haT : isT D a
      · obtain ⟨srt', one', two', cp', lv', st', ht'⟩ := haT
        obtain ⟨_, k2⟩ := h.2.1 _ _ _ _ _ _ _ ht'
        obtain ⟨h6, g0, g1, g2, g3, g4, g5, g7⟩ := h.1 a hal
        refine ⟨h6, fun w => ?_, fun w => ?_, fun w => ?_, fun w => ?_, fun w => ?_, fun w => ?_, fun w => ?_⟩
        · rw [upf_ne hac]; exact g0 w
        · rw [upf_ne hac]; exact g1 w
        · rw [upf_ne hac]; exact g2 w
        · rw [upf_ne hac]; exact g3 w
        · rw [upf_ne hac]
          have hch : ¬ (G a).2.1 = c := by
            rcases k2 with ⟨_, ⟨_, m⟩ | ⟨b, _, m, mb⟩⟩ | ⟨_, m⟩ | ⟨_, m⟩ | ⟨_, m⟩ | ⟨_, b, _, m, mb⟩ | ⟨_, b, c', _, _, m, mb, mc⟩
            · rw [m] at w; cases w
            · rw [m] at w; cases w
            · rw [m] at w; cases w
            · rw [m] at w; cases w
            · rw [m] at w; cases w
            · rw [m]; exact hne b mb
            · rw [m] at w; cases w
          rw [upf_ne hch]; exact g4 w
        · rw [upf_ne hac]
          have hch : ¬ (G a).2.1 = c ∧ ¬ (G a).2.2 = c := by
            rcases k2 with ⟨_, ⟨_, m⟩ | ⟨b, _, m, mb⟩⟩ | ⟨_, m⟩ | ⟨_, m⟩ | ⟨_, m⟩ | ⟨_, b, _, m, mb⟩ | ⟨_, b, c', _, _, m, mb, mc⟩
            · rw [m] at w; cases w
            · rw [m] at w; cases w
            · rw [m] at w; cases w
            · rw [m] at w; cases w
            · rw [m] at w; cases w
            · rw [m] at w; cases w
            · rw [m]; exact ⟨hne b mb, hne c' mc⟩
          rw [upf_ne hch.1, upf_ne hch.2]; exact g5 w
        · rw [upf_ne hac]
          have hch : ¬ (G a).2.1 = c := by
            rcases k2 with ⟨_, ⟨_, m⟩ | ⟨b, _, m, mb⟩⟩ | ⟨_, m⟩ | ⟨_, m⟩ | ⟨_, m⟩ | ⟨_, b, _, m, mb⟩ | ⟨_, b, c', _, _, m, mb, mc⟩
            · rw [m] at w; cases w
            · rw [m]; exact hne b mb
            · rw [m] at w; cases w
            · rw [m] at w; cases w
            · rw [m] at w; cases w
            · rw [m] at w; cases w
            · rw [m] at w; cases w
          rw [upf_ne hch]; exact g7 w
      · have k0 := h.2.2 a haT
        obtain ⟨h6, g0, _⟩ := h.1 a hal
        refine ⟨h6, fun w => by rw [upf_ne hac]; exact g0 w, fun w => ?_, fun w => ?_, fun w => ?_, fun w => ?_, fun w => ?_, fun w => ?_⟩ <;> (rw [k0] at w; cases w)
  · by_cases hac : a = c
    · subst hac
      obtain ⟨rfl, rfl, rfl, _⟩ := hTN.eq ht
      refine ⟨hcl, ?_⟩
      unfold TK
      rw [upf_eq]
      simp only [hist]
      rcases hk with ⟨e1, e2, rfl, _⟩ | ⟨e1, b, e2, hb, rfl, _⟩ | ⟨e1, b, c', e2, e3, hb, hc', rfl, _⟩
      · exact absurd e1 hs
      · exact .inr (.inr (.inr (.inr (.inl ⟨e1, b, e2, rfl, .inl hb⟩))))
      · exact .inr (.inr (.inr (.inr (.inr ⟨e1, b, c', e2, e3, rfl, .inl hb, .inl hc'⟩))))
    · have ht' : TY D a srt' one' two' cp' lv' st' := by unfold TY at ht ⊢; rw [hob, if_neg hac] at ht; exact ht
      obtain ⟨k1, k2⟩ := h.2.1 _ _ _ _ _ _ _ ht'
      refine ⟨k1, ?_⟩
      unfold TK at k2 ⊢
      rw [upf_ne hac]
      rcases k2 with ⟨e, g1 | ⟨b, g1, g2, g3⟩⟩ | g | g | g | ⟨e, b, g1, g2, g3⟩ | ⟨e, b, c', g1, g2, g3, g4, g5⟩
      · exact .inl ⟨e, .inl g1⟩
      · exact .inl ⟨e, .inr ⟨b, g1, g2, (hist b).mpr (.inl g3)⟩⟩
      · exact .inr (.inl g)
      · exact .inr (.inr (.inl g))
      · exact .inr (.inr (.inr (.inl g)))
      · exact .inr (.inr (.inr (.inr (.inl ⟨e, b, g1, g2, (hist b).mpr (.inl g3)⟩))))
      · exact .inr (.inr (.inr (.inr (.inr ⟨e, b, c', g1, g2, g3, (hist b).mpr (.inl g4), (hist c').mpr (.inl g5)⟩))))
  · have h1 : ¬ a = c := fun z => ha ((hist a).mpr (.inr z))
    rw [upf_ne h1]
    exact h.2.2 a fun z => ha ((hist a).mpr (.inl z))
end THH
