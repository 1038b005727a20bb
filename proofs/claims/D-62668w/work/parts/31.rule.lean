/-! ONE RULE A KIND OF INSTRUCTION, over the two desks' state -/
set_option maxRecDepth 100000
def XW (m d : Nat) (Q : am_O → am_H → Prop) (pc : Nat) (L : am_V) (S : List Value) (h : am_H) : Prop := AW m (AC d) Q pc L S h
/-- the walk goes on with a value on the stack -/
def XP (m d : Nat) (Q : am_O → am_H → Prop) (pc : Nat) (L : am_V) (T : List Value) (h : am_H) (v : Value) : Prop := XW m d Q pc L (v :: T) h
def KT (m d : Nat) (Q : am_O → am_H → Prop) (pc len : Nat) (L : am_V) (T : List Value) : am_O → am_H → Prop := am_kt (am_hs m) Q pc len L T (XW m d Q)
def capok (D : sS) (n : Nat) : Prop := 82 + gN D < am_capC ∧ gS D + n ≤ am_capS
/-- a field of an object -/
def fO (D : sS) (a ci k : Nat) (K : Value → Prop) : Prop := match gO D a with
  | some (.inr q) => q.1 = ci ∧ q.2.length = am_nf ci ∧ (match q.2[k]? with
    | some v => K v
    | none => False)
  | _ => False
/-- a field of an object is written -/
def pO (D : sS) (a ci k : Nat) (v : Value) (K : sS → Prop) : Prop := match gO D a with
  | some (.inr q) => q.1 = ci ∧ q.2.length = am_nf ci ∧ k < q.2.length ∧ K (sG D a (.inr (ci, q.2.set k v)))
  | _ => False
def cO (D : sS) (a ci : Nat) : Prop := match gO D a with
  | some (.inr q) => q.1 = ci
  | _ => False
def iO (D : sS) (a ci : Nat) (K : Value → Prop) : Prop := match gO D a with
  | some (.inr q) => am_val q.1 = true ∧ am_val ci = true ∧ K (.int (if q.1 = ci then 1 else 0))
  | _ => False
def rO (D : sS) (a κ : Nat) (j : Int32) (K : Value → Prop) : Prop := match gO D a with
  | some (.inl q) => q.1 = κ ∧ vp_in j q.2.1 ∧ K (q.2.2 j.toNatClampNeg)
  | _ => False
def wO (D : sS) (a κ : Nat) (j : Int32) (v : Value) (K : sS → Prop) : Prop := match gO D a with
  | some (.inl q) => q.1 = κ ∧ vp_in j q.2.1 ∧ K (sG D a (.inl (κ, q.2.1, updV q.2.2 j.toNatClampNeg v)))
  | _ => False
/-- what may be stored in an array of a kind -/
def kO (D : sS) (κ : Nat) (v : Value) : Prop := v = .null ∨ ∃ b cv fs, v = .ref b ∧ (toH D).1 b = some (.inr (cv, fs)) ∧ am_into κ cv = true
section RU
variable {m d : Nat} {Q : am_O → am_H → Prop} {pc k : Nat} {i : Instr} {L : am_V} {S T : List Value} {h : am_H} {D D' : sS} {q n a b κ : Nat}
theorem XW.iff (hc : (am_cd m).lookup pc = some (k, i)) : XW m d Q pc L S h ↔ (aw_in m (AC d) Q pc k i L S h (XW m d Q) ∨ aw_oth pc i L S h (XW m d Q)) := by
  unfold XW
  rw [AW.iff (AC.mon d)]
  unfold aw_st
  rw [hc]
theorem XW.ofI {P : Prop} (hc : (am_cd m).lookup pc = some (k, i)) (h1 : aw_in m (AC d) Q pc k i L S h (XW m d Q) ↔ P) (h2 : ¬ aw_oth pc i L S h (XW m d Q)) : XW m d Q pc L S h ↔ P := by
  rw [XW.iff hc, h1]
  exact ⟨fun z => z.elim (fun y => y) (fun y => (h2 y).elim), Or.inl⟩
theorem XW.ofO {P : Prop} (hc : (am_cd m).lookup pc = some (k, i)) (h1 : aw_oth pc i L S h (XW m d Q) ↔ P) (h2 : ¬ aw_in m (AC d) Q pc k i L S h (XW m d Q)) : XW m d Q pc L S h ↔ P := by
  rw [XW.iff hc, h1]
  exact ⟨fun z => z.elim (fun y => (h2 y).elim) (fun y => y), Or.inr⟩
theorem r_pure {S' : List Value} {A : Prop} {n : Nat} (hc : (am_cd m).lookup pc = some (k, i)) (hp : am_pure i S = some (A, S')) (hn : am_len i = n) (h2 : aw_in m (AC d) Q pc k i L S h (XW m d Q) = False) : XW m d Q pc L S h ↔ A ∧ XW m d Q (pc + n) L S' h := by
  subst hn
  refine XW.ofO hc ?_ (by rw [h2]; exact fun z => z)
  unfold aw_oth
  rw [hp]
theorem r_br {S' : List Value} {A : Prop} {t : Int} {t' : Nat} (hc : (am_cd m).lookup pc = some (k, i)) (hp : am_pure i S = none) (hb : am_br i S = some (A, t, S')) (ht : t = (t' : Int)) (h2 : aw_in m (AC d) Q pc k i L S h (XW m d Q) = False) : XW m d Q pc L S h ↔ (A → XW m d Q t' L S' h) ∧ (¬ A → XW m d Q (pc + 3) L S' h) := by
  subst ht
  refine XW.ofO hc ?_ (by rw [h2]; exact fun z => z)
  unfold aw_oth
  rw [hp, hb]
  exact ⟨fun z => z.2, fun z => ⟨by omega, z⟩⟩
theorem r_goto {t : Int} {t' : Nat} (hc : (am_cd m).lookup pc = some (k, .goto t)) (ht : t = (t' : Int)) : XW m d Q pc L S h ↔ XW m d Q t' L S h := by
  rw [r_br hc rfl rfl ht rfl]
  exact ⟨fun z => z.1 trivial, fun z => ⟨fun _ => z, fun y => (y trivial).elim⟩⟩
theorem r_sw {S' : List Value} {t : Int} (hc : (am_cd m).lookup pc = some (k, i)) (hp : am_pure i S = none) (hb : am_br i S = none) (hs : am_sw i S = some (t, S')) (ht : 0 ≤ t) (h2 : aw_in m (AC d) Q pc k i L S h (XW m d Q) = False) : XW m d Q pc L S h ↔ XW m d Q t.toNat L S' h := by
  refine XW.ofO hc ?_ (by rw [h2]; exact fun z => z)
  unfold aw_oth
  rw [hp, hb, hs]
  exact ⟨fun z => z.2, fun z => ⟨ht, z⟩⟩
theorem r_null {t : Int} {t' : Nat} {r : Option Nat} (hc : (am_cd m).lookup pc = some (k, .ifnull t)) (ht : t = (t' : Int)) : XW m d Q pc L (va_rf r :: T) h ↔ (r = none → XW m d Q t' L T h) ∧ (¬ r = none → XW m d Q (pc + 3) L T h) := by
  cases r with
  | none =>
    rw [show va_rf none = Value.null from rfl, r_br hc rfl rfl ht rfl]
    exact ⟨fun z => ⟨fun _ => z.1 trivial, fun y => (y rfl).elim⟩, fun z => ⟨fun _ => z.1 rfl, fun y => (y trivial).elim⟩⟩
  | some a =>
    rw [show va_rf (some a) = Value.ref a from rfl, r_br hc rfl rfl ht rfl]
    exact ⟨fun z => ⟨fun y => (by cases y), fun _ => z.2 (fun y => y)⟩, fun z => ⟨fun y => y.elim, fun _ => z.2 (fun y => by cases y)⟩⟩
theorem r_nonnull {t : Int} {t' : Nat} {r : Option Nat} (hc : (am_cd m).lookup pc = some (k, .ifnonnull t)) (ht : t = (t' : Int)) : XW m d Q pc L (va_rf r :: T) h ↔ (¬ r = none → XW m d Q t' L T h) ∧ (r = none → XW m d Q (pc + 3) L T h) := by
  cases r with
  | none =>
    rw [show va_rf none = Value.null from rfl, r_br hc rfl rfl ht rfl]
    exact ⟨fun z => ⟨fun y => (y rfl).elim, fun _ => z.2 (fun y => y)⟩, fun z => ⟨fun y => y.elim, fun _ => z.2 rfl⟩⟩
  | some a =>
    rw [show va_rf (some a) = Value.ref a from rfl, r_br hc rfl rfl ht rfl]
    exact ⟨fun z => ⟨fun _ => z.1 trivial, fun y => (by cases y)⟩, fun z => ⟨fun _ => z.1 (fun y => by cases y), fun y => (y trivial).elim⟩⟩
theorem r_getX {v : Value} (hc : (am_cd m).lookup pc = some (k, .getfield q)) (hq : q / 128 = 1) (hv : (fX D)[q % 128]? = some v) : XW m d Q pc L (.ref 25 :: T) (toH D) ↔ XW m d Q (pc + 3) L (v :: T) (toH D) := by
  refine XW.ofI hc ⟨fun z => ?_, fun z => ?_⟩ (fun z => z)
  · obtain ⟨fs, w, h1, h2, h3, h4⟩ := z
    have h1 : some (Sum.inr (1, fX D)) = some (Sum.inr (q / 128, fs)) := h1
    rw [hq] at h1
    cases h1
    cases hv.symm.trans h3
    exact h4
  · exact ⟨fX D, v, by rw [hq]; rfl, by rw [hq]; rfl, hv, z⟩
theorem r_getM {v : Value} (hc : (am_cd m).lookup pc = some (k, .getfield q)) (hq : q / 128 = 4) (hv : (fM D)[q % 128]? = some v) : XW m d Q pc L (.ref 40 :: T) (toH D) ↔ XW m d Q (pc + 3) L (v :: T) (toH D) := by
  refine XW.ofI hc ⟨fun z => ?_, fun z => ?_⟩ (fun z => z)
  · obtain ⟨fs, w, h1, h2, h3, h4⟩ := z
    have h1 : some (Sum.inr (4, fM D)) = some (Sum.inr (q / 128, fs)) := h1
    rw [hq] at h1
    cases h1
    cases hv.symm.trans h3
    exact h4
  · exact ⟨fM D, v, by rw [hq]; rfl, by rw [hq]; rfl, hv, z⟩
theorem r_getO {ci : Nat} {j : Nat} (hc : (am_cd m).lookup pc = some (k, .getfield q)) (hq : q / 128 = ci) (hj : q % 128 = j) (h1 : ci ≠ 1) (h4 : ci ≠ 4) (h30 : ci < 28) : XW m d Q pc L (.ref a :: T) (toH D) ↔ fO D a ci j (XP m d Q (pc + 3) L T (toH D)) := by
  subst hq hj
  refine XW.ofI hc ⟨fun z => ?_, fun z => ?_⟩ (fun z => z)
  · obtain ⟨fs, w, g1, g2, g3, g4⟩ := z
    have hr : isRec a = false := by
      cases hr : isRec a with
      | false => rfl
      | true =>
        have g1 : (if isRec a = true then tC D a else gG D a) = some (.inr (q / 128, fs)) := g1
        rw [if_pos hr] at g1
        unfold tC at g1
        split at g1
        · simp only [Option.some.injEq, Sum.inr.injEq, Prod.mk.injEq] at g1; omega
        split at g1
        · simp only [Option.some.injEq, Sum.inr.injEq, Prod.mk.injEq] at g1; omega
        split at g1
        · cases g1
        split at g1
        · simp only [Option.some.injEq, Sum.inr.injEq, Prod.mk.injEq] at g1; omega
        split at g1
        · simp only [Option.some.injEq, Sum.inr.injEq, Prod.mk.injEq] at g1; omega
        obtain ⟨z, hz, he⟩ := Option.map_eq_some_iff.mp g1
        unfold aC at he
        split at he
        · cases he
        split at he
        · cases he
        split at he <;> cases he
    have g5 : gO D a = some (.inr (q / 128, fs)) := by
      have g1 : (if isRec a = true then tC D a else gG D a) = some (.inr (q / 128, fs)) := g1
      rw [hr, if_neg (by decide)] at g1
      unfold gO
      rw [hr, if_neg (by decide)]
      exact g1
    unfold fO
    rw [g5]
    refine ⟨rfl, g2, ?_⟩
    show (match fs[q % 128]? with
      | some v => XP m d Q (pc + 3) L T (toH D) v
      | none => False)
    rw [g3]
    exact g4
  · unfold fO at z
    split at z
    · rename_i w hw
      obtain ⟨z1, z2, z3⟩ := z
      split at z3
      · rename_i v hv
        obtain ⟨c1, fs⟩ := w
        have z1 : c1 = q / 128 := z1
        subst z1
        exact ⟨fs, v, toH_g hw, z2, hv, z3⟩
      · exact z3.elim
    · exact z.elim
theorem tC_x (h1 : fM D' = fM D) (h2 : ∀ q κ n, aC D' q κ n = aC D q κ n) (h3 : gI D' 9000 = gI D 9000) (h4 : ∀ j, gA D' 9000 j = gA D 9000 j) (hb : b ≠ 25) : tC D' b = tC D b := by
  unfold tC
  rw [h3, h1, if_neg hb, if_neg hb]
  simp only [h2, h4]
theorem tC_m (h1 : fX D' = fX D) (h2 : ∀ q κ n, aC D' q κ n = aC D q κ n) (h3 : gI D' 9000 = gI D 9000) (h4 : ∀ j, gA D' 9000 j = gA D 9000 j) (hb : b ≠ 40) : tC D' b = tC D b := by
  unfold tC
  rw [h3, h1, if_neg hb, if_neg hb]
  simp only [h2, h4]
theorem tC_a (h1 : fX D' = fX D) (h0 : fM D' = fM D) (h2 : ∀ q', q' ≠ q → ∀ κ n, aC D' q' κ n = aC D q' κ n) (h3 : gI D' 9000 = gI D 9000) (h4 : ∀ j, gA D' 9000 j = gA D 9000 j) (ht : ∀ z ∈ aT, z.1 = a ∨ z.2.1 ≠ q) (hb : b ≠ a) : tC D' b = tC D b := by
  unfold tC
  rw [h3, h1, h0]
  simp only [h4]
  cases hz : aT.lookup b with
  | none => rfl
  | some z =>
    have hm : (b, z) ∈ aT := by
      clear h1 h0 h2 h3 h4 ht
      revert hz
      generalize aT = l
      intro hz
      induction l with
      | nil => cases hz
      | cons w t ih =>
        obtain ⟨j, w⟩ := w
        rw [List.lookup_cons] at hz
        split at hz
        · rename_i e; cases hz; have e := eq_of_beq e; subst e; exact List.mem_cons_self
        · exact List.mem_cons_of_mem _ (ih hz)
    have hne := (ht _ hm).resolve_left hb
    simp only [Option.map_some]
    rw [h2 z.1 hne]
/-- a field of FunDesk is written -/
theorem r_putX {v : Value} (hc : (am_cd m).lookup pc = some (k, .putfield q)) (hq : q / 128 = 1) (hn : q % 128 < 40) (h1 : fX D' = (fX D).set (q % 128) v) (h2 : fM D' = fM D) (h3 : ∀ q κ n, aC D' q κ n = aC D q κ n) (h4 : gI D' 9000 = gI D 9000) (h5 : ∀ j, gA D' 9000 j = gA D 9000 j) (h6 : gG D' = gG D) (h7 : gN D' = gN D) (h8 : gS D' = gS D) : XW m d Q pc L (v :: .ref 25 :: T) (toH D) ↔ am_fit (am_fty 1 (q % 128)) v ∧ XW m d Q (pc + 3) L T (toH D') := by
  have e1 : am_up (toH D) 25 (.inr (1, (fX D).set (q % 128) v)) = toH D' := toH_upX rfl (by rw [← h1]; rfl) (fun b hb => tC_x h2 h3 h4 h5 hb) h6 h7 h8
  refine XW.ofI hc ⟨fun z => ?_, fun z => ?_⟩ (fun z => z)
  · obtain ⟨fs, g1, g2, g3, g4, g5⟩ := z
    have g1 : some (Sum.inr (1, fX D)) = some (Sum.inr (q / 128, fs)) := g1
    rw [hq] at g1 g4 g5
    cases g1
    rw [e1] at g5
    exact ⟨g4, g5⟩
  · refine ⟨fX D, by rw [hq]; rfl, by rw [hq]; rfl, hn, by rw [hq]; exact z.1, ?_⟩
    rw [hq, e1]
    exact z.2
theorem r_putM {v : Value} (hc : (am_cd m).lookup pc = some (k, .putfield q)) (hq : q / 128 = 4) (hn : q % 128 < 72) (h1 : fM D' = (fM D).set (q % 128) v) (h2 : fX D' = fX D) (h3 : ∀ q κ n, aC D' q κ n = aC D q κ n) (h4 : gI D' 9000 = gI D 9000) (h5 : ∀ j, gA D' 9000 j = gA D 9000 j) (h6 : gG D' = gG D) (h7 : gN D' = gN D) (h8 : gS D' = gS D) : XW m d Q pc L (v :: .ref 40 :: T) (toH D) ↔ am_fit (am_fty 4 (q % 128)) v ∧ XW m d Q (pc + 3) L T (toH D') := by
  have e1 : am_up (toH D) 40 (.inr (4, (fM D).set (q % 128) v)) = toH D' := toH_upX rfl (by rw [← h1]; rfl) (fun b hb => tC_m h2 h3 h4 h5 hb) h6 h7 h8
  refine XW.ofI hc ⟨fun z => ?_, fun z => ?_⟩ (fun z => z)
  · obtain ⟨fs, g1, g2, g3, g4, g5⟩ := z
    have g1 : some (Sum.inr (4, fM D)) = some (Sum.inr (q / 128, fs)) := g1
    rw [hq] at g1 g4 g5
    cases g1
    rw [e1] at g5
    exact ⟨g4, g5⟩
  · refine ⟨fM D, by rw [hq]; rfl, by rw [hq]; rfl, hn, by rw [hq]; exact z.1, ?_⟩
    rw [hq, e1]
    exact z.2
theorem r_putO {ci j : Nat} {v : Value} (hc : (am_cd m).lookup pc = some (k, .putfield q)) (hq : q / 128 = ci) (hj : q % 128 = j) (h1 : ci ≠ 1) (h4 : ci ≠ 4) (h30 : ci < 28) : XW m d Q pc L (v :: .ref a :: T) (toH D) ↔ am_fit (am_fty ci j) v ∧ pO D a ci j v (fun D' => XW m d Q (pc + 3) L T (toH D')) := by
  subst hq hj
  refine XW.ofI hc ⟨fun z => ?_, fun z => ?_⟩ (fun z => z)
  · obtain ⟨fs, g1, g2, g3, g4, g5⟩ := z
    have hr : isRec a = false := by
      cases hr : isRec a with
      | false => rfl
      | true =>
        have g1 : (if isRec a = true then tC D a else gG D a) = some (.inr (q / 128, fs)) := g1
        rw [if_pos hr] at g1
        unfold tC at g1
        split at g1
        · simp only [Option.some.injEq, Sum.inr.injEq, Prod.mk.injEq] at g1; omega
        split at g1
        · simp only [Option.some.injEq, Sum.inr.injEq, Prod.mk.injEq] at g1; omega
        split at g1
        · cases g1
        split at g1
        · simp only [Option.some.injEq, Sum.inr.injEq, Prod.mk.injEq] at g1; omega
        split at g1
        · simp only [Option.some.injEq, Sum.inr.injEq, Prod.mk.injEq] at g1; omega
        obtain ⟨z, hz, he⟩ := Option.map_eq_some_iff.mp g1
        unfold aC at he
        split at he
        · cases he
        split at he
        · cases he
        split at he <;> cases he
    have g6 : gO D a = some (.inr (q / 128, fs)) := by
      have g1 : (if isRec a = true then tC D a else gG D a) = some (.inr (q / 128, fs)) := g1
      rw [hr, if_neg (by decide)] at g1
      unfold gO
      rw [hr, if_neg (by decide)]
      exact g1
    rw [toH_up g6] at g5
    refine ⟨g4, ?_⟩
    unfold pO
    rw [g6]
    exact ⟨rfl, g2, g3, g5⟩
  · obtain ⟨z0, z⟩ := z
    unfold pO at z
    split at z
    · rename_i w hw
      obtain ⟨z1, z2, z3, z4⟩ := z
      obtain ⟨c1, fs⟩ := w
      have z1 : c1 = q / 128 := z1
      subst z1
      refine ⟨fs, toH_g hw, z2, z3, z0, ?_⟩
      rw [toH_up hw]
      exact z4
    · exact z.elim
theorem toH_o {ci : Nat} {fs : List Value} (h : (toH D).1 a = some (.inr (ci, fs))) (h1 : ci ≠ 1) (h4 : ci ≠ 4) (h30 : ci < 30) : gO D a = some (.inr (ci, fs)) := by
  have hr : isRec a = false := by
    cases hr : isRec a with
    | false => rfl
    | true =>
      have g1 : (if isRec a = true then tC D a else gG D a) = some (.inr (ci, fs)) := h
      rw [if_pos hr] at g1
      unfold tC at g1
      split at g1
      · simp only [Option.some.injEq, Sum.inr.injEq, Prod.mk.injEq] at g1; omega
      split at g1
      · simp only [Option.some.injEq, Sum.inr.injEq, Prod.mk.injEq] at g1; omega
      split at g1
      · cases g1
      split at g1
      · simp only [Option.some.injEq, Sum.inr.injEq, Prod.mk.injEq] at g1; omega
      split at g1
      · simp only [Option.some.injEq, Sum.inr.injEq, Prod.mk.injEq] at g1; omega
      obtain ⟨z, hz, he⟩ := Option.map_eq_some_iff.mp g1
      unfold aC at he
      split at he
      · cases he
      split at he
      · cases he
      split at he <;> cases he
  have g1 : (if isRec a = true then tC D a else gG D a) = some (.inr (ci, fs)) := h
  rw [hr, if_neg (by decide)] at g1
  unfold gO
  rw [hr, if_neg (by decide)]
  exact g1
theorem r_cast {ci : Nat} (hc : (am_cd m).lookup pc = some (k, .checkcast ci)) (h1 : ci ≠ 1) (h4 : ci ≠ 4) (h30 : ci < 28) : XW m d Q pc L (.ref a :: T) (toH D) ↔ cO D a ci ∧ XW m d Q (pc + 3) L (.ref a :: T) (toH D) := by
  refine XW.ofI hc ⟨fun z => ?_, fun z => ?_⟩ (fun z => z)
  · obtain ⟨⟨fs, g1⟩, g2⟩ := z
    refine ⟨?_, g2⟩
    unfold cO
    rw [toH_o g1 h1 h4 (by omega)]
  · obtain ⟨z1, z2⟩ := z
    unfold cO at z1
    split at z1
    · rename_i w hw
      obtain ⟨c1, fs⟩ := w
      have z1 : c1 = ci := z1
      subst z1
      exact ⟨⟨fs, toH_g hw⟩, z2⟩
    · exact z1.elim
theorem r_inst {ci : Nat} (hc : (am_cd m).lookup pc = some (k, .instanceof ci)) : XW m d Q pc L (.ref a :: T) (toH D) ↔ iO D a ci (XP m d Q (pc + 3) L T (toH D)) := by
  refine XW.ofI hc ⟨fun z => ?_, fun z => ?_⟩ (fun z => z)
  · obtain ⟨cj, fs, g1, g2, g3, g4⟩ := z
    have hv : cj = 3 ∨ cj = 17 ∨ cj = 18 ∨ cj = 19 ∨ cj = 20 ∨ cj = 22 := by simp [am_val] at g2; omega
    unfold iO
    rw [toH_o g1 (by omega) (by omega) (by omega)]
    exact ⟨g2, g3, g4⟩
  · unfold iO at z
    split at z
    · rename_i w hw
      obtain ⟨c1, fs⟩ := w
      exact ⟨c1, fs, toH_g hw, z⟩
    · exact z.elim
/-- arrays of the desks -/
theorem r_ldI {n : Nat} {f : Nat → Value} {j : Int32} (hc : (am_cd m).lookup pc = some (k, .iaload)) (ha : (toH D).1 a = some (.inl (1, n, f))) : XW m d Q pc L (.int j :: .ref a :: T) (toH D) ↔ vp_in j n ∧ XW m d Q (pc + 1) L (f j.toNatClampNeg :: T) (toH D) := by
  refine XW.ofI hc ⟨fun z => ?_, fun z => ⟨n, f, ha, z⟩⟩ (fun z => z)
  obtain ⟨n', f', g1, g3, g4⟩ := z
  cases ha.symm.trans g1
  exact ⟨g3, g4⟩
theorem r_ldS {j : Int32} {w : Nat} (hc : (am_cd m).lookup pc = some (k, .iaload)) : XW m d Q pc L (.int j :: .retAddr w :: T) (toH D) ↔ vp_in j (gI D 9000).toNatClampNeg ∧ XW m d Q (pc + 1) L (.int (gA D 9000 j.toNatClampNeg) :: T) (toH D) := by
  have ha : (toH D).1 24 = some (.inl (20, (gI D 9000).toNatClampNeg, fun j => .int (gA D 9000 j))) := rfl
  refine XW.ofI hc ⟨fun z => ?_, fun z => ⟨_, _, ha, z⟩⟩ (fun z => z)
  obtain ⟨n', f', g1, g3, g4⟩ := z
  cases ha.symm.trans g1
  exact ⟨g3, g4⟩
theorem r_lenS {w : Nat} (hc : (am_cd m).lookup pc = some (k, .arraylength)) : XW m d Q pc L (.retAddr w :: T) (toH D) ↔ XW m d Q (pc + 1) L (.int (gI D 9000).toNatClampNeg.toInt32 :: T) (toH D) := by
  have ha : (toH D).1 24 = some (.inl (20, (gI D 9000).toNatClampNeg, fun j => .int (gA D 9000 j))) := rfl
  refine XW.ofI hc ⟨fun z => ?_, fun z => ⟨_, _, ha, z⟩⟩ (fun z => z)
  obtain ⟨n', f', g1, g3⟩ := z
  cases ha.symm.trans g1
  exact g3
theorem r_ldR {κ n : Nat} {f : Nat → Value} {j : Int32} (hc : (am_cd m).lookup pc = some (k, .aaload)) (ha : (toH D).1 a = some (.inl (κ, n, f))) (hk : 5 ≤ κ ∧ κ < 11) : XW m d Q pc L (.int j :: .ref a :: T) (toH D) ↔ vp_in j n ∧ XW m d Q (pc + 1) L (f j.toNatClampNeg :: T) (toH D) := by
  refine XW.ofI hc ⟨fun z => ?_, fun z => ⟨κ, n, f, ha, hk, z⟩⟩ (fun z => z)
  obtain ⟨κ', n', f', g1, g2, g3, g4⟩ := z
  cases ha.symm.trans g1
  exact ⟨g3, g4⟩
theorem r_ldA {κ n : Nat} {f : Nat → Value} {j : Int32} (hc : (am_cd m).lookup pc = some (k, i)) (hi : aw_in m (AC d) Q pc k i L (.int j :: .ref a :: T) (toH D) (XW m d Q) = am_rA κ (.int j :: .ref a :: T) (toH D) (fun S' => XW m d Q (pc + 1) L S' (toH D))) (ho : aw_oth pc i L (.int j :: .ref a :: T) (toH D) (XW m d Q) = False) (ha : (toH D).1 a = some (.inl (κ, n, f))) : XW m d Q pc L (.int j :: .ref a :: T) (toH D) ↔ vp_in j n ∧ XW m d Q (pc + 1) L (f j.toNatClampNeg :: T) (toH D) := by
  refine XW.ofI hc ?_ (by rw [ho]; exact fun z => z)
  rw [hi]
  refine ⟨fun z => ?_, fun z => ⟨n, f, ha, z⟩⟩
  obtain ⟨n', f', g1, g3, g4⟩ := z
  cases ha.symm.trans g1
  exact ⟨g3, g4⟩
theorem r_stA {κ n : Nat} {f : Nat → Value} {j : Int32} {v : Value} {ok : Value → Prop} (hc : (am_cd m).lookup pc = some (k, i)) (hi : aw_in m (AC d) Q pc k i L (v :: .int j :: .ref a :: T) (toH D) (XW m d Q) = am_wA κ ok (v :: .int j :: .ref a :: T) (toH D) (XW m d Q (pc + 1) L)) (ho : aw_oth pc i L (v :: .int j :: .ref a :: T) (toH D) (XW m d Q) = False) (ha : (toH D).1 a = some (.inl (κ, n, f))) (he : am_up (toH D) a (.inl (κ, n, updV f j.toNatClampNeg v)) = toH D') :
    XW m d Q pc L (v :: .int j :: .ref a :: T) (toH D) ↔ ok v ∧ vp_in j n ∧ XW m d Q (pc + 1) L T (toH D') := by
  refine XW.ofI hc ?_ (by rw [ho]; exact fun z => z)
  rw [hi, ← he]
  refine ⟨fun z => ?_, fun z => ⟨n, f, ha, z⟩⟩
  obtain ⟨n', f', g1, g3, g4, g5⟩ := z
  cases ha.symm.trans g1
  exact ⟨g3, g4, g5⟩
theorem r_stR {κ n : Nat} {f : Nat → Value} {j : Int32} {v : Value} (hc : (am_cd m).lookup pc = some (k, .aastore)) (ha : (toH D).1 a = some (.inl (κ, n, f))) (hk : 5 ≤ κ ∧ κ < 11) (he : am_up (toH D) a (.inl (κ, n, updV f j.toNatClampNeg v)) = toH D') :
    XW m d Q pc L (v :: .int j :: .ref a :: T) (toH D) ↔ kO D κ v ∧ vp_in j n ∧ XW m d Q (pc + 1) L T (toH D') := by
  refine XW.ofI hc ?_ (fun z => z)
  rw [← he]
  refine ⟨fun z => ?_, fun z => ⟨κ, n, f, ha, hk, z⟩⟩
  obtain ⟨κ', n', f', g1, g2, g3, g4, g5⟩ := z
  cases ha.symm.trans g1
  exact ⟨g3, g4, g5⟩
theorem toH_upA {κ n j : Nat} {f : Nat → Value} {v : Value} (ha : isRec a = true) (h0 : tC D' a = some (.inl (κ, n, updV f j v))) (h1 : fX D' = fX D) (h2 : fM D' = fM D) (h3 : ∀ q', q' ≠ q → ∀ κ n, aC D' q' κ n = aC D q' κ n) (h4 : gI D' 9000 = gI D 9000) (h5 : ∀ j, gA D' 9000 j = gA D 9000 j) (ht : ∀ z ∈ aT, z.1 = a ∨ z.2.1 ≠ q) (h6 : gG D' = gG D) (h7 : gN D' = gN D) (h8 : gS D' = gS D) : am_up (toH D) a (.inl (κ, n, updV f j v)) = toH D' :=
  toH_upX ha h0 (fun b hb => tC_a h1 h2 h3 h4 h5 ht hb) h6 h7 h8
theorem aC_sA {v : Int32} {j : Nat} (q' : Nat) (hq : q' ≠ q) (κ n : Nat) : aC (sA D q j v) q' κ n = aC D q' κ n := by
  unfold aC
  simp only [gA_sA, if_neg hq]
  rfl
theorem aC_sL {v : Int64} {j : Nat} (q' : Nat) (hq : q' ≠ q) (κ n : Nat) : aC (sL D q j v) q' κ n = aC D q' κ n := by
  unfold aC
  simp only [gL_sL, if_neg hq]
  rfl
theorem aC_sF {v : UInt64} {j : Nat} (q' : Nat) (hq : q' ≠ q) (κ n : Nat) : aC (sF D q j v) q' κ n = aC D q' κ n := by
  unfold aC
  simp only [gF_sF, if_neg hq]
  rfl
theorem aC_sQ {v : Option Nat} {j : Nat} (q' : Nat) (hq : q' ≠ q) (κ n : Nat) : aC (sQ D q j v) q' κ n = aC D q' κ n := by
  unfold aC
  simp only [gQ_sQ, if_neg hq]
  rfl
theorem fA_sA {v : Int32} {j : Nat} : (fun i => Value.int (gA (sA D q j v) q i)) = updV (fun i => Value.int (gA D q i)) j (.int v) := by
  funext i
  simp only [gA_sA, if_true, updV]
  split <;> rfl
theorem fA_sL {v : Int64} {j : Nat} : (fun i => Value.long (gL (sL D q j v) q i)) = updV (fun i => Value.long (gL D q i)) j (.long v) := by
  funext i
  simp only [gL_sL, if_true, updV]
  split <;> rfl
theorem fA_sF {v : UInt64} {j : Nat} : (fun i => Value.double (gF (sF D q j v) q i)) = updV (fun i => Value.double (gF D q i)) j (.double v) := by
  funext i
  simp only [gF_sF, if_true, updV]
  split <;> rfl
theorem fA_sQ {v : Option Nat} {j : Nat} : (fun i => va_rf (gQ (sQ D q j v) q i)) = updV (fun i => va_rf (gQ D q i)) j (va_rf v) := by
  funext i
  simp only [gQ_sQ, if_true, updV]
  split <;> rfl
end RU
