/-! FunDeskModel, reading: the loop follows the reader -/
set_option maxRecDepth 100000
def lm (g : Nat) (e : tE) : Nat := if g < 7 then rl e else 0
def ls (g : Nat) (e : tE) : Nat := if g < 7 then sl e else (pl e).length
def RG (D : sS) (g : Nat) (e : tE) (m s : Nat) : Prop := if g < 7 then RD (Fdr D) m (eL e none m s 0) ∧ RS (Gdr D) s (eS e) else RS (Gdr D) s (pl e)
def kk (g : Nat) : Nat := if g = 0 then 0 else if g ≤ 6 then 7 - g else if g = 7 then 0 else 6
def KO (H : sS → Prop) (tx : Nat → Int32) (n : Nat) (D : sS) (p0 dep k m s g : Nat) (e : tE) (p' : Nat) (b : Int32) : Prop := ∀ D' p1, MFR k m s D D' → ms D' tx n p1 dep k (m + lm g e) (s + ls g e) → sk tx n p1 = sk tx n p' → p0 < p1 → p1 ≤ n → lm g e + 1 + 2 * p0 ≤ 2 * p1 → ls g e + p0 ≤ p1 → (7 ≤ g → gI D' 535 = b) → RG D' g e m s → H D'
def MR (H : sS → Prop) (tx : Nat → Int32) (n : Nat) (D : sS) (p0 dep k m s g : Nat) (r : Option (tE × Nat × Int32)) : Prop := match r with
  | none => KB H D
  | some (e, p', b) => KO H tx n D p0 dep k m s g e p' b
def BN (n p0 dep k m s g : Nat) : Prop := p0 ≤ n ∧ dep ≤ 16 ∧ k + kk g ≤ 7 * dep + p0 ∧ (m = 0 ∨ m + 1 ≤ 2 * p0) ∧ s ≤ p0
def ML (H : sS → Prop) (tx : Nat → Int32) (n f : Nat) : Prop := ∀ g p p0 dep bn acc r D k m s, g ≤ 8 → PR tx n f g p dep bn acc = some r → ms D tx n p0 dep (k + 1) m s → sk tx n p0 = sk tx n p → fr D k g 0 0 0 → (7 ≤ g → gI D 535 = bn) → BN n p0 dep k m s g → MR H tx n D p0 dep k m s g r → H D
section MT
variable {H : sS → Prop} {tx : Nat → Int32} {n f g p p0 p1 dep k k' m m' s s' st j q i : Nat} {bn c v x y : Int32} {acc : tE} {r : Option (tE × Nat × Int32)} {D D' D'' : sS} {u : tR} {F : tE → Nat → Int32 → tR} {G : Nat → tR} {L : List (Nat × Nat × Nat × Nat)} {M : List (Nat × Nat)}
theorem bd_some (h : bd u F = some r) : (u = some none ∧ r = none) ∨ ∃ e p b, u = some (some (e, p, b)) ∧ F e p b = some r := by
  match u, h with
  | some none, h => exact .inl ⟨rfl, by cases h; rfl⟩
  | some (some (e, p, b)), h => exact .inr ⟨e, p, b, rfl, h⟩
theorem et_some (h : et tx n c p G = some r) : (¬ hr tx n (sk tx n p) = c ∧ r = none) ∨ (hr tx n (sk tx n p) = c ∧ G (sk tx n p + 1) = some r) := by
  unfold et at h
  split at h
  · rename_i h'; exact .inr ⟨h', h⟩
  · rename_i h'; exact .inl ⟨h', by cases h; rfl⟩
theorem KB.go (h : KB H D) (hf : MFR k m s D D') : KB H D' := fun D'' h1 h2 => h D'' ((hf.le (Nat.zero_le _) (Nat.zero_le _) (Nat.zero_le _)).trans h1) h2
theorem KB.go1 (h : KB H D) (hf : MFR k m s (sA D q j v) D') (hq : q = 517 ∨ q = 518 ∨ q = 537) : KB H D' := h.go ((MFR.refl (k := 0) (m := 0) (s := 0)).set (.inl ⟨by omega, Nat.zero_le _⟩) |>.trans (hf.le (Nat.zero_le _) (Nat.zero_le _) (Nat.zero_le _)))
theorem MR.bad (h : MR H tx n D p0 dep k m s g r) (hr : r = none) : KB H D := by subst hr; exact h
theorem MR.good {e : tE} {b : Int32} (h : MR H tx n D p0 dep k m s g r) (hr : rok e p b = some r) : KO H tx n D p0 dep k m s g e p b := by cases hr; exact h
theorem fr.mfr (h : fr D k g st x y) (hf : MFR k' m s D D') (hk : k < k') : fr D' k g st x y := by
  obtain ⟨h1, h2, h3, h4⟩ := h
  exact ⟨(hf.2.1 529 k (by omega)).trans h1, (hf.2.1 530 k (by omega)).trans h2, (hf.2.1 531 k (by omega)).trans h3, (hf.2.1 532 k (by omega)).trans h4⟩
theorem en.mfr {a : Nat} {b c : Int32} (h : en D m a b c) (hf : MFR k m' s D D') (hm : m < m') : en D' m a b c := by
  obtain ⟨h1, h2, h3⟩ := h
  exact ⟨(hf.2.1 516 m (by omega)).trans h1, (hf.2.1 517 m (by omega)).trans h2, (hf.2.1 518 m (by omega)).trans h3⟩
theorem en.set {a : Nat} {b c : Int32} (h : en D m a b c) (hj : ¬ m = j ∨ q = 537) : en (sA D q j v) m a b c := by
  obtain ⟨h1, h2, h3⟩ := h
  exact ⟨(gA_ne (by omega)).trans h1, (gA_ne (by omega)).trans h2, (gA_ne (by omega)).trans h3⟩
theorem RD.mf1 (h : RD (Fdr D) i L) (hf : MFR k m s (sA D q j v) D') (hm : i + L.length ≤ m) (hj : j < i ∨ i + L.length ≤ j) : RD (Fdr D') i L := (h.set (.inl hj)).mfr hf hm
theorem RS.mf1 (h : RS (Gdr D) i M) (hf : MFR k m s (sA D q j v) D') (hm : i + M.length ≤ s) (hq : q = 517 ∨ q = 518 ∨ q = 537) : RS (Gdr D') i M := (h.set (.inr (by omega))).mfr hf hm
theorem MFR.of1 (hf : MFR k m s (sA D q j v) D') (hq : q = 517 ∨ q = 518 ∨ q = 537) (hj : m' ≤ j) (hm : m' ≤ m) : MFR k m' s D D' := ((MFR.refl (k := k) (m := m') (s := s)).set (.inl ⟨by omega, hj⟩)).trans (hf.le (Nat.le_refl _) hm (Nat.le_refl _))
theorem fr.set (h : fr D k g st x y) (hq : q = 517 ∨ q = 518 ∨ q = 537) : fr (sA D q j v) k g st x y := by
  obtain ⟨h1, h2, h3, h4⟩ := h
  exact ⟨(gA_ne (by omega)).trans h1, (gA_ne (by omega)).trans h2, (gA_ne (by omega)).trans h3, (gA_ne (by omega)).trans h4⟩
theorem RG.lo {e : tE} (h : RG D g e m s) (hg : g < 7) : RD (Fdr D) m (eL e none m s 0) ∧ RS (Gdr D) s (eS e) := by unfold RG at h; rw [if_pos hg] at h; exact h
theorem RG.hi {e : tE} (h : RG D g e m s) (hg : ¬ g < 7) : RS (Gdr D) s (pl e) := by unfold RG at h; rw [if_neg hg] at h; exact h
theorem RG.of {e : tE} (hg : g < 7) (h : RD (Fdr D) m (eL e none m s 0)) (h' : RS (Gdr D) s (eS e)) : RG D g e m s := by unfold RG; rw [if_pos hg]; exact ⟨h, h'⟩
theorem RG.oh {e : tE} (hg : ¬ g < 7) (h' : RS (Gdr D) s (pl e)) : RG D g e m s := by unfold RG; rw [if_neg hg]; exact h'
theorem lm_lo {e : tE} (hg : g < 7) : lm g e = rl e := if_pos hg
theorem ls_lo {e : tE} (hg : g < 7) : ls g e = sl e := if_pos hg
theorem lm_hi {e : tE} (hg : ¬ g < 7) : lm g e = 0 := if_neg hg
theorem ls_hi {e : tE} (hg : ¬ g < 7) : ls g e = (pl e).length := if_neg hg
/-- something is read, then more -/
theorem ML.sub (h : ML H tx n f) (hb : bd (PR tx n f g p dep bn acc) F = some r) (hg : g ≤ 8) (hm : ms D tx n p0 dep (k + 1) m s) (hsk : sk tx n p0 = sk tx n p) (hfr : fr D k g 0 0 0) (hbn : 7 ≤ g → gI D 535 = bn) (hB : BN n p0 dep k m s g) (h0 : r = none → KB H D) (h1 : ∀ e p' b, PR tx n f g p dep bn acc = some (some (e, p', b)) → F e p' b = some r → KO H tx n D p0 dep k m s g e p' b) : H D := by
  rcases bd_some hb with ⟨e1, e2⟩ | ⟨e, p', b, e1, e2⟩
  · exact h g p p0 dep bn acc none D k m s hg e1 hm hsk hfr hbn hB (h0 e2)
  · exact h g p p0 dep bn acc _ D k m s hg e1 hm hsk hfr hbn hB (h1 e p' b e1 e2)
theorem ML.lo (h : ML H tx n f) (hb : bd (PR tx n f g p dep bn acc) F = some r) (hg : g < 7) (hm : ms D tx n p0 dep (k + 1) m s) (hsk : sk tx n p0 = sk tx n p) (hfr : fr D k g 0 0 0) (hB : BN n p0 dep k m s g) (h0 : r = none → KB H D) (h1 : ∀ e p' b, F e p' b = some r → ∀ D' p1, MFR k m s D D' → ms D' tx n p1 dep k (m + rl e) (s + sl e) → sk tx n p1 = sk tx n p' → p0 < p1 → p1 ≤ n → rl e + 1 + 2 * p0 ≤ 2 * p1 → sl e + p0 ≤ p1 → RD (Fdr D') m (eL e none m s 0) → RS (Gdr D') s (eS e) → H D') : H D := by
  refine h.sub hb (by omega) hm hsk hfr (fun z => by omega) hB h0 fun e p' b _ he D' p1 a1 a2 a3 a4 a5 a6 a7 a8 a9 => ?_
  rw [lm_lo hg, ls_lo hg] at a2
  rw [lm_lo hg] at a6
  rw [ls_lo hg] at a7
  exact h1 e p' b he D' p1 a1 a2 a3 a4 a5 a6 a7 (a9.lo hg).1 (a9.lo hg).2
theorem KO.lo {e : tE} {b : Int32} (h : KO H tx n D p0 dep k m s g e p b) (hg : g < 7) : ∀ D' p1, MFR k m s D D' → ms D' tx n p1 dep k (m + rl e) (s + sl e) → sk tx n p1 = sk tx n p → p0 < p1 → p1 ≤ n → rl e + 1 + 2 * p0 ≤ 2 * p1 → sl e + p0 ≤ p1 → RD (Fdr D') m (eL e none m s 0) → RS (Gdr D') s (eS e) → H D' := by
  intro D' p1 a1 a2 a3 a4 a5 a6 a7 a8 a9
  refine h D' p1 a1 ?_ a3 a4 a5 ?_ ?_ (fun z => by omega) (.of hg a8 a9)
  · rw [lm_lo hg, ls_lo hg]; exact a2
  · rw [lm_lo hg]; exact a6
  · rw [ls_lo hg]; exact a7
theorem sk_1 (hp : p ≤ n) : p ≤ sk tx n p ∧ sk tx n p ≤ n := ⟨sk_le, sk_lt hp⟩
theorem BN.bd (h : BN n p0 dep k m s g) (hn : n ≤ 60) : BD n p0 dep k m s := by
  obtain ⟨h1, h2, h3, h4, h5⟩ := h
  exact ⟨h1, h2, by omega, by omega, by omega⟩
end MT
