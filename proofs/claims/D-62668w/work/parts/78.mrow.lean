/-! THE ROW of a tree: the signs of FunDeskModel, and what stays while a line is read -/
set_option maxRecDepth 100000
/-- the signs of a pattern -/
def pl : tE → List (Nat × Nat)
  | .var c => [(1, c)]
  | .pow (.natCast v) k => [(k, v)]
  | .mul q r => (0, 0) :: (pl q ++ pl r)
  | _ => []
/-- its names -/
def pv : tE → List Nat
  | .var c => if c = 0 then [] else [c]
  | .mul q r => pv q ++ pv r
  | _ => []
/-- the patterns' signs in an expression -/
def eS : tE → List (Nat × Nat)
  | .pow (.neg b) _ => eS b
  | .mul f a => eS f ++ eS a
  | .pow (.add l r) _ => eS l ++ eS r
  | .neg r => eS r
  | .sub t (.add y z) => eS t ++ (eS y ++ eS z)
  | .pow (.sub w i) _ => eS w ++ eS i
  | .pow (.mul w i) _ => eS w ++ eS i
  | .add w cl => eS w ++ eS cl
  | .sub q (.sub e r) => pl q ++ (eS e ++ eS r)
  | _ => []
/-- how many signs -/
def rl : tE → Nat
  | .pow (.natCast _) _ => 1
  | .var _ => 1
  | .pow (.neg b) _ => rl b + 2
  | .mul f a => rl f + rl a + 1
  | .pow (.add l r) _ => rl l + rl r + 1
  | .neg r => rl r + 1
  | .sub t (.add y z) => rl t + rl y + rl z + 3
  | .pow (.sub w i) _ => rl w + rl i + 2
  | .pow (.mul w i) _ => rl w + rl i + 3
  | .add w cl => rl w + 1 + rl cl
  | .sub _ (.sub e r) => rl e + 3 + rl r
  | .natCast _ => 1
  | _ => 0
def sl (e : tE) : Nat := (eS e).length
def dst (G : Option (List Nat)) (c : Nat) : Nat := match G with
  | none => 0
  | some L => L.idxOf c
def xt (c : Nat) (G : Option (List Nat)) : Option (List Nat) := G.map fun L => c :: L
def xs (v : List Nat) (G : Option (List Nat)) : Option (List Nat) := G.map fun L => v.reverse ++ L
/-- the row: what, argument, name, otherwise; G: the names around, if they have been found; m s: where it begins; E: behind the clauses -/
def eL : tE → Option (List Nat) → Nat → Nat → Nat → List (Nat × Nat × Nat × Nat)
  | .pow (.natCast v) k, _, _, _, _ => [(k, v, 0, 0)]
  | .var c, G, _, _, _ => [(5, dst G c, c, 0)]
  | .pow (.neg b) c, G, m, s, _ => (6, m + 1 + rl b + 1, c, 0) :: (eL b (xt c G) (m + 1) s 0 ++ [(7, 0, m, 0)])
  | .mul f a, G, m, s, _ => eL f G m s 0 ++ (eL a G (m + rl f) (s + sl f) 0 ++ [(8, 1, 0, 0)])
  | .pow (.add l r) o, G, m, s, _ => eL l G m s 0 ++ (eL r G (m + rl l) (s + sl l) 0 ++ [(9, o, 0, 0)])
  | .neg r, G, m, s, _ => eL r G m s 0 ++ [(9, 126, 0, 0)]
  | .sub t (.add y z), G, m, s, _ => eL t G m s 0 ++ ((13, m + rl t + 1 + rl y + 1, 0, 0) :: (eL y G (m + rl t + 1) (s + sl t) 0 ++ ((14, m + rl t + 1 + rl y + 1 + rl z, m + rl t, 0) :: (eL z G (m + rl t + 1 + rl y + 1) (s + sl t + sl y) 0 ++ [(18, 0, m + rl t + 1 + rl y, 0)]))))
  | .pow (.sub w i) c, G, m, s, _ => eL w G m s 0 ++ ((10, 0, c, 0) :: (eL i (xt c G) (m + rl w + 1) (s + sl w) 0 ++ [(12, 1, c, 0)]))
  | .pow (.mul w i) c, G, m, s, _ => (19, 0, c, 0) :: (eL w (xt c G) (m + 1) s 0 ++ ((11, 0, c, 0) :: (eL i (xt c G) (m + 1 + rl w + 1) (s + sl w) 0 ++ [(12, 1, c, 0)])))
  | .add w cl, G, m, s, _ => eL w G m s 0 ++ ((15, 0, 0, 0) :: eL cl G (m + rl w + 1) (s + sl w) (m + rl w + 1 + rl cl))
  | .sub q (.sub e r), G, m, s, E => (16, s, s + (pl q).length, m + 1 + rl e + 2) :: (eL e (xs (pv q) G) (m + 1) (s + (pl q).length) 0 ++ ((12, (pv q).length, 0, 0) :: (14, E, 0, 0) :: eL r G (m + 1 + rl e + 2) (s + (pl q).length + sl e) E))
  | .natCast _, _, _, _, _ => [(17, 0, 0, 0)]
  | _, _, _, _, _ => []
/-- the row lies in arrays from m on -/
def RD (F : Nat → Nat → Int32) : Nat → List (Nat × Nat × Nat × Nat) → Prop
  | _, [] => True
  | m, (a, b, c, o) :: L => (F 0 m = i32 a ∧ F 1 m = i32 b ∧ F 2 m = i32 c ∧ (a = 16 → F 3 m = i32 o)) ∧ RD F (m + 1) L
def RS (F : Nat → Nat → Int32) : Nat → List (Nat × Nat) → Prop
  | _, [] => True
  | m, (a, b) :: L => (F 0 m = i32 a ∧ F 1 m = i32 b) ∧ RS F (m + 1) L
def Fdr (D : sS) (q : Nat) (j : Nat) : Int32 := gA D (if q = 0 then 516 else if q = 1 then 517 else if q = 2 then 518 else 537) j
def Gdr (D : sS) (q : Nat) (j : Nat) : Int32 := gA D (if q = 0 then 524 else 525) j
section RO
variable {F F' : Nat → Nat → Int32} {m s k m' s' k' q j i : Nat} {L L' : List (Nat × Nat × Nat × Nat)} {M M' : List (Nat × Nat)} {D D' D'' : sS} {v : Int32}
theorem RD_app : RD F m (L ++ L') ↔ RD F m L ∧ RD F (m + L.length) L' := by
  induction L generalizing m with
  | nil => exact ⟨fun h => ⟨trivial, h⟩, fun h => h.2⟩
  | cons x L ih =>
    obtain ⟨a, b, c, o⟩ := x
    have e : m + (((a, b, c, o) :: L : List (Nat × Nat × Nat × Nat))).length = m + 1 + L.length := by rw [List.length_cons]; omega
    rw [e]
    show _ ∧ RD F (m + 1) (L ++ L') ↔ (_ ∧ RD F (m + 1) L) ∧ _
    rw [ih]
    exact and_assoc.symm
theorem RS_app : RS F m (M ++ M') ↔ RS F m M ∧ RS F (m + M.length) M' := by
  induction M generalizing m with
  | nil => exact ⟨fun h => ⟨trivial, h⟩, fun h => h.2⟩
  | cons x L ih =>
    obtain ⟨a, b⟩ := x
    have e : m + (((a, b) :: L : List (Nat × Nat))).length = m + 1 + L.length := by rw [List.length_cons]; omega
    rw [e]
    show _ ∧ RS F (m + 1) (L ++ M') ↔ (_ ∧ RS F (m + 1) L) ∧ _
    rw [ih]
    exact and_assoc.symm
theorem RD.congr (h : RD F m L) (hc : ∀ q j, m ≤ j → j < m + L.length → F' q j = F q j) : RD F' m L := by
  induction L generalizing m with
  | nil => trivial
  | cons x L ih =>
    obtain ⟨a, b, c, o⟩ := x
    have e : (((a, b, c, o) :: L : List (Nat × Nat × Nat × Nat))).length = L.length + 1 := List.length_cons
    obtain ⟨⟨h1, h2, h3, h4⟩, h5⟩ := h
    have hm : ∀ q, F' q m = F q m := fun q => hc q m (Nat.le_refl _) (by omega)
    refine ⟨⟨(hm 0).trans h1, (hm 1).trans h2, (hm 2).trans h3, fun z => (hm 3).trans (h4 z)⟩, ih h5 fun q j h1 h2 => hc q j (by omega) (by omega)⟩
theorem RS.congr (h : RS F m M) (hc : ∀ q j, m ≤ j → j < m + M.length → F' q j = F q j) : RS F' m M := by
  induction M generalizing m with
  | nil => trivial
  | cons x L ih =>
    obtain ⟨a, b⟩ := x
    have e : (((a, b) :: L : List (Nat × Nat))).length = L.length + 1 := List.length_cons
    obtain ⟨⟨h1, h2⟩, h5⟩ := h
    have hm : ∀ q, F' q m = F q m := fun q => hc q m (Nat.le_refl _) (by omega)
    refine ⟨⟨(hm 0).trans h1, (hm 1).trans h2⟩, ih h5 fun q j h1 h2 => hc q j (by omega) (by omega)⟩
/-- one place up -/
theorem RS.shift (h : RS F m M) (hc : ∀ q j, m ≤ j → j < m + M.length → F' q (j + 1) = F q j) : RS F' (m + 1) M := by
  induction M generalizing m with
  | nil => trivial
  | cons x L ih =>
    obtain ⟨a, b⟩ := x
    have e : (((a, b) :: L : List (Nat × Nat))).length = L.length + 1 := List.length_cons
    obtain ⟨⟨h1, h2⟩, h5⟩ := h
    have hm : ∀ q, F' q (m + 1) = F q m := fun q => hc q m (Nat.le_refl _) (by omega)
    refine ⟨⟨(hm 0).trans h1, (hm 1).trans h2⟩, ih h5 fun q j h1 h2 => hc q j (by omega) (by omega)⟩
theorem Fdr_sI : Fdr (sI D q v) = Fdr D := rfl
theorem Gdr_sI : Gdr (sI D q v) = Gdr D := rfl
theorem gA_ne (h : ¬ (k = q ∧ i = j)) : gA (sA D q j v) k i = gA D k i := by
  rw [gA_sA]
  split
  · split
    · rename_i h1 h2; exact absurd ⟨h1, h2⟩ h
    · rfl
  · rfl
theorem gA_eq : gA (sA D q j v) q j = v := by rw [gA_sA, if_pos rfl, if_pos rfl]
theorem RD.set (h : RD (Fdr D) m L) (hc : (j < m ∨ m + L.length ≤ j) ∨ ¬ (q = 516 ∨ q = 517 ∨ q = 518 ∨ q = 537)) : RD (Fdr (sA D q j v)) m L := by
  refine h.congr fun q' i h1 h2 => ?_
  unfold Fdr
  refine gA_ne fun z => ?_
  obtain ⟨z1, z2⟩ := z
  rcases hc with hc | hc
  · omega
  · rw [← z1] at hc
    revert hc
    split
    · exact fun z => z (.inl rfl)
    split
    · exact fun z => z (.inr (.inl rfl))
    split
    · exact fun z => z (.inr (.inr (.inl rfl)))
    · exact fun z => z (.inr (.inr (.inr rfl)))
theorem RS.set (h : RS (Gdr D) m M) (hc : (j < m ∨ m + M.length ≤ j) ∨ ¬ (q = 524 ∨ q = 525)) : RS (Gdr (sA D q j v)) m M := by
  refine h.congr fun q' i h1 h2 => ?_
  unfold Gdr
  refine gA_ne fun z => ?_
  obtain ⟨z1, z2⟩ := z
  rcases hc with hc | hc
  · omega
  · rw [← z1] at hc
    revert hc
    split
    · exact fun z => z (.inl rfl)
    · exact fun z => z (.inr rfl)
/-- what may change while a line is read: from a frame, a sign and a pattern's sign on -/
def MFR (k m s : Nat) (D D' : sS) : Prop := (∀ q, ¬ (q = 515 ∨ q = 519 ∨ q = 526 ∨ q = 533 ∨ q = 534 ∨ q = 535 ∨ q = 536) → gI D' q = gI D q) ∧ (∀ q j, ¬ (((q = 516 ∨ q = 517 ∨ q = 518 ∨ q = 537) ∧ m ≤ j) ∨ ((q = 524 ∨ q = 525) ∧ s ≤ j) ∨ ((q = 529 ∨ q = 530 ∨ q = 531 ∨ q = 532) ∧ k ≤ j)) → gA D' q j = gA D q j) ∧ D'.2.1 = D.2.1 ∧ D'.2.2.2 = D.2.2.2
theorem MFR.refl : MFR k m s D D := ⟨fun _ _ => rfl, fun _ _ _ => rfl, rfl, rfl⟩
theorem MFR.le (h : MFR k m s D D') (hk : k' ≤ k) (hm : m' ≤ m) (hs : s' ≤ s) : MFR k' m' s' D D' := ⟨h.1, fun q j z => h.2.1 q j (by omega), h.2.2⟩
theorem MFR.trans (h : MFR k m s D D') (h' : MFR k m s D' D'') : MFR k m s D D'' := ⟨fun q z => (h'.1 q z).trans (h.1 q z), fun q j z => (h'.2.1 q j z).trans (h.2.1 q j z), h'.2.2.1.trans h.2.2.1, h'.2.2.2.trans h.2.2.2⟩
theorem MFR.seti (h : MFR k m s D D') (hq : q = 515 ∨ q = 519 ∨ q = 526 ∨ q = 533 ∨ q = 534 ∨ q = 535 ∨ q = 536) : MFR k m s D (sI D' q v) := by
  refine ⟨fun q' z => ?_, h.2⟩
  rw [gI_sI]
  split
  · rename_i e; exact absurd (e ▸ hq) z
  · exact h.1 q' z
theorem MFR.set (h : MFR k m s D D') (hq : ((q = 516 ∨ q = 517 ∨ q = 518 ∨ q = 537) ∧ m ≤ j) ∨ ((q = 524 ∨ q = 525) ∧ s ≤ j) ∨ ((q = 529 ∨ q = 530 ∨ q = 531 ∨ q = 532) ∧ k ≤ j)) : MFR k m s D (sA D' q j v) := by
  refine ⟨h.1, fun q' j' z => ?_, h.2.2⟩
  rw [gA_ne]
  · exact h.2.1 q' j' z
  · rintro ⟨rfl, rfl⟩; exact z hq
theorem RD.mfr (h : RD (Fdr D) m L) (hf : MFR k m' s D D') (hm : m + L.length ≤ m') : RD (Fdr D') m L := by
  refine h.congr fun q j h1 h2 => ?_
  unfold Fdr
  refine hf.2.1 _ j ?_
  have e : ∀ q : Nat, (if q = 0 then 516 else if q = 1 then 517 else if q = 2 then 518 else 537) < 524 ∨ (if q = 0 then 516 else if q = 1 then 517 else if q = 2 then 518 else 537) = 537 := by intro q; split <;> (try split) <;> (try split) <;> omega
  have := e q
  omega
theorem RS.mfr (h : RS (Gdr D) m M) (hf : MFR k m' s D D') (hm : m + M.length ≤ s) : RS (Gdr D') m M := by
  refine h.congr fun q j h1 h2 => ?_
  unfold Gdr
  refine hf.2.1 _ j ?_
  have e : ∀ q : Nat, (if q = 0 then 524 else 525) = 524 ∨ (if q = 0 then 524 else 525) = 525 := by intro q; split <;> omega
  have := e q
  omega
theorem eL_len : ∀ (e : tE) (G : Option (List Nat)) (m s E : Nat), (eL e G m s E).length = rl e := by
  intro e
  induction e using rl.induct <;> intro G m s E <;> simp_all [eL, rl] <;> omega
end RO
