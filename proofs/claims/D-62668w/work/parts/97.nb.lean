/-! FunDesk: whether all names are bound -/
set_option maxRecDepth 100000
def nm : tE → List Nat → Bool
  | .var c, G => G.contains c
  | .pow (.neg b) c, G => nm b (c :: G)
  | .mul f a, G => nm f G && nm a G
  | .pow (.add l r) _, G => nm l G && nm r G
  | .neg r, G => nm r G
  | .sub t (.add y z), G => nm t G && (nm y G && nm z G)
  | .pow (.sub w i) c, G => nm w G && nm i (c :: G)
  | .pow (.mul w i) c, G => nm w (c :: G) && nm i (c :: G)
  | .add w cl, G => nm w G && nm cl G
  | .sub q (.sub e r), G => nm e ((pv q).reverse ++ G) && nm r G
  | _, _ => true
def nz (e : tE) : Nat := rl e + sl e
section NB
variable {d : Nat} {D D' : sS} {Q : am_O → am_H → Prop} {a A B c j : Nat} {x : Int32} {r t nx : Option Nat} {E : List (Nat × Option Nat)}
theorem rR_of {κ m : Nat} {g : Nat → Value} {K : Value → Prop} (h : gO D a = some (.inl (κ, m, g))) (hκ : 5 ≤ κ ∧ κ < 11) (hj : j < m) (hm : m < 1000) : rR D a (i32 j) K ↔ K (g j) := by
  unfold rR
  rw [h]
  dsimp only
  rw [i32_in (by omega), i32_nat (by omega)]
  exact ⟨fun z => z.2.2, fun z => ⟨hκ, hj, z⟩⟩
theorem lk_none : E.lookup c = none ↔ (E.map Prod.fst).contains c = false := by
  induction E with
  | nil => exact ⟨fun _ => rfl, fun _ => rfl⟩
  | cons z E ih =>
    obtain ⟨c', t⟩ := z
    rw [List.lookup_cons, List.map_cons, List.contains_cons]
    cases h : c == c'
    · rw [Bool.false_or]; exact ih
    · simp
theorem lk_some {t : Option Nat} (h : E.lookup c = some t) : (E.map Prod.fst).contains c = true := by
  cases h' : (E.map Prod.fst).contains c
  · rw [lk_none.mpr h'] at h; cases h
  · rfl
/-- the contract of look -/
def LK (e : tE) : Prop := ∀ (a A B : Nat) (E : List (Nat × Option Nat)) (r : Option Nat) (d : Nat) (D : sS) (Q : am_O → am_H → Prop) (j : Nat), EX (gO D) A B e none a → 82 ≤ A → B ≤ 82 + gN D → SC (gO D) (82 + gN D) E r → RM D (nz e + j) → 1 ≤ j → 4 * nz e + 8 ≤ d → (nm e (E.map Prod.fst) = true → ∀ D', FP D D' → gN D' ≤ gN D + nz e → Q (.inl none) (toH D')) → (nm e (E.map Prod.fst) = false → ∀ D' x, FP D D' → gN D' ≤ gN D + nz e → Q (.inr (x, 24)) (toH D')) → ∀ ci fs, gO D a = some (.inr (ci, fs)) → AC d (am_dp 0 ci) [.ref a, va_rf r] (toH D) Q
/-- the loop over clauses -/
def LC (e : tE) : Prop := ∀ (a A B b ps es m k : Nat) (fp fe : Nat → Value) (E : List (Nat × Option Nat)) (r : Option Nat) (d : Nat) (D : sS) (Q : am_O → am_H → Prop) (j : Nat), gO D a = some (.inr (10, [.ref b, .ref ps, .ref es, .int (i32 m)])) → 82 ≤ ps → 82 ≤ es → a < 82 + gN D → ps < 82 + gN D → es < 82 + gN D → gO D ps = some (.inl (7, 5, fp)) → gO D es = some (.inl (10, 5, fe)) → k + cln e = m → m ≤ 5 → EX (gO D) A B e (some (fp, fe)) k → 82 ≤ A → B ≤ 82 + gN D → SC (gO D) (82 + gN D) E r → RM D (nz e + j) → 1 ≤ j → 4 * nz e + 8 ≤ d → (nm e (E.map Prod.fst) = true → ∀ D', FP D D' → gN D' ≤ gN D + nz e → Q (.inl none) (toH D')) → (nm e (E.map Prod.fst) = false → ∀ D' x, FP D D' → gN D' ≤ gN D + nz e → Q (.inr (x, 24)) (toH D')) → XW 180 d Q 12 [some (.ref a), some (va_rf r), some (.int (i32 k))] [] (toH D)
theorem EX.imp {G : Nat → Option am_C} {A B a : Nat} {e : tE} (h : EX G A B e none a) : a < B ∧ ∃ (cv : Nat) (fs : List Value), G a = some (.inr (cv, fs)) ∧ am_imp 0 cv = true ∧ am_imp 1 cv = true ∧ am_imp 2 cv = true := by
  obtain ⟨_, h2, cv, fs, h3, h4⟩ := h.root
  exact ⟨h2, cv, fs, h3, h4, h4, h4⟩
theorem EX.to {e : tE} {m : Option ((Nat → Value) × (Nat → Value))} (hf : FP D D') (hB : B ≤ 82 + gN D) (h : EX (gO D) A B e m a) : EX (gO D') A B e m a := EX.mono (fun b _ hb => hf.obj (by omega)) (Nat.le_refl _) (Nat.le_refl _) e m a h
theorem PX.to {e : tE} (hf : FP D D') (hB : B ≤ 82 + gN D) (h : PX (gO D) A B e a) : PX (gO D') A B e a := PX.mono (fun b _ hb => hf.obj (by omega)) (Nat.le_refl _) (Nat.le_refl _) e a h
/-- two parts, one after the other -/
theorem LK.two {K : am_O → am_H → Prop} {e : tE} {b : Nat} (ih : LK e) (hX : EX (gO D) A B e none b) (hA : 82 ≤ A) (hB : B ≤ 82 + gN D) (hS : SC (gO D) (82 + gN D) E r) (hR : RM D (nz e + j)) (hj : 1 ≤ j) (hd : 4 * nz e + 8 ≤ d) (h1 : nm e (E.map Prod.fst) = true → ∀ D', FP D D' → gN D' ≤ gN D + nz e → K (.inl none) (toH D')) (h0 : nm e (E.map Prod.fst) = false → ∀ D' x, FP D D' → gN D' ≤ gN D + nz e → K (.inr (x, 24)) (toH D')) : cF D b 0 (fun ci => AC d (am_dp 0 ci) [.ref b, va_rf r] (toH D) K) := by
  obtain ⟨_, cv, fs, h3, h4, _⟩ := hX.imp
  rw [cF_of h3 h4]
  exact ih b A B E r d D K j hX hA hB hS hR hj hd h1 h0 cv fs h3
end NB
