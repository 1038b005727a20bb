/-! FunDesk: trees in the heap; what reading may change -/
set_option maxRecDepth 100000
def srt (k : Nat) : Nat := if k = 2 then 1 else if k = 3 then 2 else 4
def PX (G : Nat → Option am_C) (A B : Nat) : tE → Nat → Prop
  | .var c, a => A ≤ a ∧ a < B ∧ G a = some (.inr (12, [.int (i32 c)]))
  | .pow (.natCast v) k, a => A ≤ a ∧ a < B ∧ G a = some (.inr (11, [.ref (srt k), .int (i32 v)]))
  | .mul q r, a => A ≤ a ∧ a < B ∧ ∃ b c, G a = some (.inr (13, [.ref b, .ref c])) ∧ PX G A B q b ∧ PX G A B r c
  | _, _ => False
def cln : tE → Nat
  | .sub _ (.sub _ r) => cln r + 1
  | _ => 0
/-- an expression at an address; clauses: from a number on, with the rows of patterns and expressions -/
def EX (G : Nat → Option am_C) (A B : Nat) : tE → Option ((Nat → Value) × (Nat → Value)) → Nat → Prop
  | .pow (.natCast v) k, none, a => A ≤ a ∧ a < B ∧ G a = some (.inr (5, [.ref (6 + k), .int (i32 v), .ref (k + 1)]))
  | .var c, none, a => A ≤ a ∧ a < B ∧ G a = some (.inr (7, [.int (i32 c)]))
  | .pow (.neg e) c, none, a => A ≤ a ∧ a < B ∧ ∃ b, G a = some (.inr (14, [.int (i32 c), .ref b])) ∧ EX G A B e none b
  | .mul f e, none, a => A ≤ a ∧ a < B ∧ ∃ b c, G a = some (.inr (8, [.ref b, .ref c])) ∧ EX G A B f none b ∧ EX G A B e none c
  | .pow (.add l r) s, none, a => A ≤ a ∧ a < B ∧ ∃ b c, G a = some (.inr (6, [.int (i32 s), .ref b, .ref c])) ∧ EX G A B l none b ∧ EX G A B r none c
  | .neg e, none, a => A ≤ a ∧ a < B ∧ ∃ b, G a = some (.inr (6, [.int 126, .null, .ref b])) ∧ EX G A B e none b
  | .sub t (.add y z), none, a => A ≤ a ∧ a < B ∧ ∃ b c e, G a = some (.inr (9, [.ref b, .ref c, .ref e])) ∧ EX G A B t none b ∧ EX G A B y none c ∧ EX G A B z none e
  | .pow (.sub w i) c, none, a => A ≤ a ∧ a < B ∧ ∃ b e, G a = some (.inr (15, [.int (i32 c), .ref b, .ref e, .int 0])) ∧ EX G A B w none b ∧ EX G A B i none e
  | .pow (.mul w i) c, none, a => A ≤ a ∧ a < B ∧ ∃ b e, G a = some (.inr (15, [.int (i32 c), .ref b, .ref e, .int 1])) ∧ EX G A B w none b ∧ EX G A B i none e
  | .add w cl, none, a => A ≤ a ∧ a < B ∧ ∃ b ps es fp fe m, G a = some (.inr (10, [.ref b, .ref ps, .ref es, .int (i32 m)])) ∧ EX G A B w none b ∧ A ≤ ps ∧ ps < B ∧ A ≤ es ∧ es < B ∧ G ps = some (.inl (7, 5, fp)) ∧ G es = some (.inl (10, 5, fe)) ∧ cln cl = m ∧ m ≤ 5 ∧ EX G A B cl (some (fp, fe)) 0
  | .natCast _, some _, _ => True
  | .sub q (.sub e r), some (fp, fe), j => (∃ b, fp j = .ref b ∧ PX G A B q b) ∧ (∃ c, fe j = .ref c ∧ EX G A B e none c) ∧ EX G A B r (some (fp, fe)) (j + 1)
  | _, _, _ => False
section GR
variable {G G' : Nat → Option am_C} {A B A' B' : Nat}
theorem PX.mono (hG : ∀ b, A ≤ b → b < B → G' b = G b) (hA : A' ≤ A) (hB : B ≤ B') : ∀ (e : tE) (a : Nat), PX G A B e a → PX G' A' B' e a := by
  intro e a
  fun_induction PX G A B e a with
  | case1 c a => intro h; unfold PX; exact ⟨by omega, by omega, by rw [hG _ h.1 h.2.1]; exact h.2.2⟩
  | case2 v k a => intro h; unfold PX; exact ⟨by omega, by omega, by rw [hG _ h.1 h.2.1]; exact h.2.2⟩
  | case3 q r a ih1 ih2 =>
    intro h
    unfold PX
    obtain ⟨h1, h2, b, c, h3, h4, h5⟩ := h
    exact ⟨by omega, by omega, b, c, by rw [hG _ h1 h2]; exact h3, ih1 b h4, ih2 c h5⟩
  | case4 => intro h; exact h.elim
theorem EX.mono (hG : ∀ b, A ≤ b → b < B → G' b = G b) (hA : A' ≤ A) (hB : B ≤ B') : ∀ (e : tE) (m : Option ((Nat → Value) × (Nat → Value))) (a : Nat), EX G A B e m a → EX G' A' B' e m a := by
  intro e m a
  fun_induction EX G A B e m a <;> intro h <;> (try exact h.elim) <;> unfold EX
  · exact ⟨by omega, by omega, by rw [hG _ h.1 h.2.1]; exact h.2.2⟩
  · exact ⟨by omega, by omega, by rw [hG _ h.1 h.2.1]; exact h.2.2⟩
  · rename_i ih1
    obtain ⟨h1, h2, b, h3, h4⟩ := h
    exact ⟨by omega, by omega, b, by rw [hG _ h1 h2]; exact h3, ih1 b h4⟩
  · rename_i ih1 ih2
    obtain ⟨h1, h2, b, c, h3, h4, h5⟩ := h
    exact ⟨by omega, by omega, b, c, by rw [hG _ h1 h2]; exact h3, ih1 b h4, ih2 c h5⟩
  · rename_i ih1 ih2
    obtain ⟨h1, h2, b, c, h3, h4, h5⟩ := h
    exact ⟨by omega, by omega, b, c, by rw [hG _ h1 h2]; exact h3, ih1 b h4, ih2 c h5⟩
  · rename_i ih1
    obtain ⟨h1, h2, b, h3, h4⟩ := h
    exact ⟨by omega, by omega, b, by rw [hG _ h1 h2]; exact h3, ih1 b h4⟩
  · rename_i ih1 ih2 ih3
    obtain ⟨h1, h2, b, c, e, h3, h4, h5, h6⟩ := h
    exact ⟨by omega, by omega, b, c, e, by rw [hG _ h1 h2]; exact h3, ih1 b h4, ih2 c h5, ih3 e h6⟩
  · rename_i ih1 ih2
    obtain ⟨h1, h2, b, c, h3, h4, h5⟩ := h
    exact ⟨by omega, by omega, b, c, by rw [hG _ h1 h2]; exact h3, ih1 b h4, ih2 c h5⟩
  · rename_i ih1 ih2
    obtain ⟨h1, h2, b, c, h3, h4, h5⟩ := h
    exact ⟨by omega, by omega, b, c, by rw [hG _ h1 h2]; exact h3, ih1 b h4, ih2 c h5⟩
  · rename_i ih1 ih2
    obtain ⟨h1, h2, b, ps, es, fp, fe, m, h3, h4, h5, h6, h7, h8, h9, h10, h11, h12, h13⟩ := h
    exact ⟨by omega, by omega, b, ps, es, fp, fe, m, by rw [hG _ h1 h2]; exact h3, ih1 b h4, by omega, Nat.lt_of_lt_of_le h6 hB, by omega, Nat.lt_of_lt_of_le h8 hB, by rw [hG _ h5 h6]; exact h9, by rw [hG _ h7 h8]; exact h10, h11, h12, ih2 fp fe h13⟩
  · trivial
  · rename_i ih1 ih2
    obtain ⟨⟨b, h1, h2⟩, ⟨c, h3, h4⟩, h5⟩ := h
    exact ⟨⟨b, h1, PX.mono hG hA hB _ _ h2⟩, ⟨c, h3, ih1 c h4⟩, ih2 h5⟩
end GR
/-- what reading changes: three numbers; new objects come -/
def FP (D D' : sS) : Prop := (∀ q, ¬ q = 141 → ¬ q = 142 → ¬ q = 143 → gI D' q = gI D q) ∧ gR D' = gR D ∧ gA D' = gA D ∧ gL D' = gL D ∧ gF D' = gF D ∧ gQ D' = gQ D ∧ (∀ b, b < 82 + gN D → gG D' b = gG D b) ∧ gN D ≤ gN D' ∧ gS D' + 6 * gN D ≤ gS D + 6 * gN D'
/-- so many objects of 6 slots may come -/
def RM (D : sS) (k : Nat) : Prop := gN D + k < 600000 ∧ gS D + 6 * k ≤ 7290000
section FP
variable {D D' D'' : sS} {k j a : Nat} {v : Int32} {u y : am_C} {tx : Nat → Int32} {n : Nat}
theorem FP.refl : FP D D := ⟨fun _ _ _ _ => rfl, rfl, rfl, rfl, rfl, rfl, fun _ _ => rfl, Nat.le_refl _, Nat.le_refl _⟩
theorem FP.trans (h : FP D D') (h' : FP D' D'') : FP D D'' := by
  obtain ⟨a1, a2, a3, a4, a5, a6, a7, a8, a9⟩ := h
  obtain ⟨b1, b2, b3, b4, b5, b6, b7, b8, b9⟩ := h'
  exact ⟨fun q x y z => (b1 q x y z).trans (a1 q x y z), b2.trans a2, b3.trans a3, b4.trans a4, b5.trans a5, b6.trans a6, fun b hb => (b7 b (by omega)).trans (a7 b hb), by omega, by omega⟩
theorem FP.at_ (h : FP D D') : FP D (sI D' 141 v) := h.trans ⟨fun q x y z => by rw [gI_sI, if_neg x], rfl, rfl, rfl, rfl, rfl, fun _ _ => rfl, Nat.le_refl _, Nat.le_refl _⟩
theorem FP.dep (h : FP D D') : FP D (sI D' 142 v) := h.trans ⟨fun q x y z => by rw [gI_sI, if_neg y], rfl, rfl, rfl, rfl, rfl, fun _ _ => rfl, Nat.le_refl _, Nat.le_refl _⟩
theorem FP.bnd (h : FP D D') : FP D (sI D' 143 v) := h.trans ⟨fun q x y z => by rw [gI_sI, if_neg z], rfl, rfl, rfl, rfl, rfl, fun _ _ => rfl, Nat.le_refl _, Nat.le_refl _⟩
theorem gG_sN : gG (sN D u k) a = if a = 82 + gN D then some u else gG D a := rfl
theorem gG_sG : gG (sG D j u) a = if a = j then some u else gG D a := rfl
theorem FP.new (hk : k ≤ 6) (h : FP D D') : FP D (sN D' u k) := h.trans ⟨fun _ _ _ _ => rfl, rfl, rfl, rfl, rfl, rfl, fun b hb => by rw [gG_sN, if_neg (by omega)], by rw [gN_sN]; omega, by rw [gN_sN, gS_sN]; omega⟩
theorem FP.wr (ha : 82 + gN D ≤ a) (h : FP D D') : FP D (sG D' a u) := by
  obtain ⟨a1, a2, a3, a4, a5, a6, a7, a8, a9⟩ := h
  exact ⟨a1, a2, a3, a4, a5, a6, fun b hb => by rw [gG_sG, if_neg (by omega)]; exact a7 b hb, a8, a9⟩
theorem FP.obj (h : FP D D') {b : Nat} (hb : b < 82 + gN D) : gO D' b = gO D b := by
  unfold gO
  rw [h.2.2.2.2.2.2.1 b hb]
theorem FP.tf (h : FP D D') (hT : TF D tx n) : TF D' tx n := ⟨(h.1 140 (by decide) (by decide) (by decide)).trans hT.1, hT.2.1, fun j hj => by rw [h.2.2.1]; exact hT.2.2.1 j hj, hT.2.2.2⟩
theorem RM.cap (h : RM D k) (hk : 1 ≤ k) (hj : j ≤ 6) : capok D j := by
  obtain ⟨h1, h2⟩ := h
  unfold capok am_capC am_capS
  omega
theorem RM.go (h : RM D k) (hf : FP D D') (hg : gN D' + j ≤ gN D + k) : RM D' j := by
  obtain ⟨h1, h2⟩ := h
  have h8 := hf.2.2.2.2.2.2.2.1
  have h9 := hf.2.2.2.2.2.2.2.2
  unfold RM
  omega
end FP
