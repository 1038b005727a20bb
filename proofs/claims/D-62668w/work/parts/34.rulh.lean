/-! small rows that the printed ones use -/
set_option maxRecDepth 100000
theorem fit_ra {t : FieldType} {r : Option Nat} : am_fit (.array t) (va_rf r) := by cases r <;> exact ⟨rfl, rfl⟩
theorem nar_b {x : Int32} : narrow .boolean (.int x) = .int x ↔ x = 0 ∨ x = 1 := by
  constructor
  · intro h
    have h1 : Value.int (x &&& 1) = .int x := h
    have h1 : x &&& 1 = x := by injection h1
    have h2 : x.toBitVec &&& 1#32 = x.toBitVec := congrArg Int32.toBitVec h1
    have h3 : x.toBitVec.toNat % 2 = x.toBitVec.toNat := by
      have := congrArg BitVec.toNat h2
      rw [BitVec.toNat_and] at this
      simpa [Nat.and_one_is_mod] using this
    have h4 : x.toBitVec.toNat = 0 ∨ x.toBitVec.toNat = 1 := by omega
    rcases h4 with h4 | h4
    · left; apply Int32.toBitVec_inj.mp; apply BitVec.eq_of_toNat_eq; rw [h4]; rfl
    · right; apply Int32.toBitVec_inj.mp; apply BitVec.eq_of_toNat_eq; rw [h4]; rfl
  · rintro (rfl | rfl) <;> rfl
theorem r_putS {m d : Nat} {Q : am_O → am_H → Prop} {pc k : Nat} {L : am_V} {T : List Value} {D : sS} {x : Int64} (hc : (am_cd m).lookup pc = some (k, .putfield 581)) : XW m d Q pc L (.long x :: .ref 40 :: T) (toH D) ↔ XW m d Q (pc + 3) L T (toH (sL D 581 0 x)) := by
  have ht : ∀ b, b ≠ 40 → tC (sL D 581 0 x) b = tC D b := by
    intro b hb
    unfold tC
    rw [if_neg hb, if_neg hb]
    cases hz : aT.lookup b with
    | none => rfl
    | some z =>
      have hm : (b, z) ∈ aT := by
        revert hz
        generalize aT = l
        intro hz
        induction l with
        | nil => cases hz
        | cons w t ih =>
          obtain ⟨j, w⟩ := w
          rw [List.lookup_cons] at hz
          split at hz
          · rename_i e; cases hz; have e := eq_of_beq e; subst e; exact List.mem_cons_self
          · exact List.mem_cons_of_mem _ (ih hz)
      have hne : z.1 ≠ 581 := (by decide : ∀ w ∈ aT, w.2.1 ≠ 581) _ hm
      simp only [Option.map_some]
      rw [aC_sL z.1 hne]
      rfl
  have e1 : am_up (toH D) 40 (.inr (4, (fM D).set 69 (.long x))) = toH (sL D 581 0 x) := toH_upX rfl rfl ht rfl rfl rfl
  refine XW.ofI hc ⟨fun z => ?_, fun z => ?_⟩ (fun z => z)
  · obtain ⟨fs, g1, g2, g3, g4, g5⟩ := z
    have g1 : some (Sum.inr (4, fM D)) = some (Sum.inr (4, fs)) := g1
    cases g1
    rw [← e1]
    exact g5
  · refine ⟨fM D, rfl, rfl, Nat.le_of_ble_eq_true rfl, ⟨rfl, rfl⟩, ?_⟩
    rw [← e1] at z
    exact z
theorem lay_R {v : Value} {r : List Value} {L : am_V} (h : am_isR v = true) (hr : am_lay r = L) : am_lay (v :: r) = some v :: L := by
  subst hr
  cases v <;> first | rfl | cases h
theorem lay_I {x : Int32} {r : List Value} {L : am_V} (hr : am_lay r = L) : am_lay (.int x :: r) = some (.int x) :: L := by subst hr; rfl
theorem lay_L {x : Int64} {r : List Value} {L : am_V} (hr : am_lay r = L) : am_lay (.long x :: r) = some (.long x) :: none :: L := by subst hr; rfl
theorem lay_D {x : UInt64} {r : List Value} {L : am_V} (hr : am_lay r = L) : am_lay (.double x :: r) = some (.double x) :: none :: L := by subst hr; rfl
theorem r_ent {m d : Nat} {Q : am_O → am_H → Prop} {h : am_H} {a : List Value} {L L' : am_V} {n : Nat} (hm : m < 221) (hl : am_lay a = L) (hn : am_mL m = n) (hlen : L.length ≤ n) (he : L ++ List.replicate (n - L.length) none = L') : AC (d + 1) m a h Q ↔ XW m d Q 0 L' [] h := by
  subst hl hn he
  exact ⟨fun z => z.2.2, fun z => ⟨hm, hlen, z⟩⟩
