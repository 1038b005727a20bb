/-! THE WORLD AT THE LAW'S START, 2: am_K, am_E, the first heap -/
set_option maxRecDepth 100000
theorem am_rng {i n : Nat} (h : i < n) {α : Type} (f : Nat → α) : f i ∈ (List.range n).map f := List.mem_map.mpr ⟨i, List.mem_range.mpr h, rfl⟩
section WS
variable {s : State} {A : Array Value}
/-- the constants of Sort and Op -/
theorem am_enum (hts : ∀ w ∈ lw_tbl, w.before A s = true) (hs : ∀ w ∈ am_fl0, w.before A s = true) : ∃ (ad : Nat → Nat) (cf : ClassId) (kf : Class) (fi : Nat) (fd : Field), s.fieldFound? "java/lang/Enum" "ordinal" "I" = some (cf, kf, fi, fd) ∧ fd.isStatic = false ∧
    ∀ i, i < 24 → (am_os (am_sta.getD i ("", "", ""))).eval A s none [] s = some (.ref (ad i)) ∧ ad i < s.heap.size ∧ ∃ cell : Cell, s.heap[ad i]? = some cell ∧ cell.vm ≠ .unknown ∧ cell.vm.isStatics = false ∧ s.vm.findClass (if i < 6 then "FunDesk$Sort" else "FunDesk$Op") = some cell.cls ∧ cell.slots[fd.slot]? = some (.int (am_ord i)) := by
  have one : ∀ i, i < 24 → ∃ (a : Nat) (cf : ClassId) (kf : Class) (fi : Nat) (fd : Field), s.fieldFound? "java/lang/Enum" "ordinal" "I" = some (cf, kf, fi, fd) ∧ fd.isStatic = false ∧ (am_os (am_sta.getD i ("", "", ""))).eval A s none [] s = some (.ref a) ∧ a < s.heap.size ∧ ∃ cell : Cell, s.heap[a]? = some cell ∧ cell.vm ≠ .unknown ∧ cell.vm.isStatics = false ∧ s.vm.findClass (if i < 6 then "FunDesk$Sort" else "FunDesk$Op") = some cell.cls ∧ cell.slots[fd.slot]? = some (.int (am_ord i)) := by
    intro i hi
    have h1 := hs _ (am_inAll am_n1_ok (am_rng hi (fun i => Cond.exactly (am_os (am_sta.getD i ("", "", ""))) (am_sta.getD i ("", "", "")).1)))
    have h2 := hs _ (am_inAll am_n2_ok (am_rng hi (fun i => Cond.eq (.field (am_os (am_sta.getD i ("", "", ""))) "java/lang/Enum" "ordinal" "I") (.int (am_ord i)))))
    obtain ⟨a, c, cell, k, e1, e2, e3, e4, e5, e6, -⟩ := Cond.exactly_spec h1
    obtain ⟨y, e7, e8⟩ := Cond.eq_one h2
    have e8 : some (Value.int (am_ord i)) = some y := e8
    cases e8
    have hn : (am_sta.getD i ("", "", "")).1 = (if i < 6 then "FunDesk$Sort" else "FunDesk$Op") := (by decide : ∀ i : Fin 24, (am_sta.getD i ("", "", "")).1 = (if (i : Nat) < 6 then "FunDesk$Sort" else "FunDesk$Op")) ⟨i, hi⟩
    rw [hn] at e2
    simp only [Term.eval, e1, Option.bind_eq_bind, Option.bind_some, State.fieldOf?, e3, State.fieldNamed?] at e7
    cases hf : s.fieldFound? "java/lang/Enum" "ordinal" "I" with
    | none => rw [hf] at e7; cases e7
    | some q =>
      obtain ⟨cf, kf, fi, fd⟩ := q
      rw [hf] at e7
      simp only [Option.bind_some] at e7
      by_cases hst : fd.isStatic = false
      · rw [hst] at e7
        simp only [beq_self_eq_true, if_true, Option.pure_def, Option.bind_some] at e7
        split at e7
        · cases e7
        · rename_i hno
          refine ⟨a, cf, kf, fi, fd, rfl, hst, e1, (Array.getElem?_eq_some_iff.mp e3).1, cell, e3, fun z => hno (Or.inl z), e5, ?_, e7⟩
          rw [e6]; exact e2
      · have : fd.isStatic = true := by cases hz : fd.isStatic <;> simp_all
        rw [this] at e7
        simp at e7
  obtain ⟨-, cf, kf, fi, fd, h1, h2, -⟩ := one 0 (by decide)
  refine ⟨fun i => if hi : i < 24 then (one i hi).choose else 0, cf, kf, fi, fd, h1, h2, fun i hi => ?_⟩
  simp only [dif_pos hi]
  obtain ⟨cf', kf', fi', fd', g1, g2, g3⟩ := (one i hi).choose_spec
  cases h1.symm.trans g1
  exact g3
theorem am_arrK (hts : ∀ w ∈ lw_tbl, w.before A s = true) : ∃ dA : Nat → ClassId, ∀ (k : Nat) (ty : FieldType), am_tys[k]? = some ty → ArrOfT s (dA k) ty ∧ va_RA s (dA k) ty := by
  have hta : ∀ w ∈ lw_all, w.before A s = true := fun w h => hts w (lw_all_tbl h)
  have prim : ∀ ty : FieldType, (∀ C, ty ≠ .object C) → (Cond.arrayClass ty).before A s = true → ∃ cA, ArrOfT s cA ty ∧ va_RA s cA ty := by
    intro ty hty h
    obtain ⟨c, k, comp, h1, h2, h3⟩ := Cond.arrayClass_spec h
    refine ⟨c, fun n z => ⟨fun _ => by simp [arrV], k, h2, comp, h3⟩, ?_⟩
    cases ty <;> first | exact h1 | exact absurd rfl (hty _)
  have obj : ∀ C : String, (Cond.arrayOver (.object C)).before A s = true → ∃ cA, ArrOfT s cA (.object C) ∧ va_RA s cA (.object C) := by
    intro C h
    obtain ⟨comp, c, k, h1, -, h2, h3, h4⟩ := Cond.arrayOver_spec h
    exact ⟨c, fun n z => ⟨fun _ => by simp [arrV], k, h2, comp, h3⟩, k, comp, h2, h3, h1, h4⟩
  have all : ∀ k : Nat, ∃ cA, ∀ ty, am_tys[k]? = some ty → ArrOfT s cA ty ∧ va_RA s cA ty := by
    intro k
    have mk : ∀ ty, (∃ cA, ArrOfT s cA ty ∧ va_RA s cA ty) → am_tys[k]? = some ty → ∃ cA, ∀ ty, am_tys[k]? = some ty → ArrOfT s cA ty ∧ va_RA s cA ty := by
      rintro ty ⟨cA, hc⟩ hk
      exact ⟨cA, fun ty' h' => by cases hk.symm.trans h'; exact hc⟩
    match k with
    | 0 => exact mk _ (prim _ (fun _ => by simp) (hta _ q199)) rfl
    | 1 => exact mk _ (prim _ (fun _ => by simp) (hta _ q200)) rfl
    | 2 => exact mk _ (prim _ (fun _ => by simp) (hta _ q1625)) rfl
    | 3 => exact mk _ (prim _ (fun _ => by simp) (hta _ q1626)) rfl
    | 4 => exact mk _ (prim _ (fun _ => by simp) (hta _ q1627)) rfl
    | 5 => exact mk _ (obj _ (hts _ q184)) rfl
    | 6 => exact mk _ (obj _ (hts _ q186)) rfl
    | 7 => exact mk _ (obj _ (hts _ q188)) rfl
    | 8 => exact mk _ (obj _ (hts _ q202)) rfl
    | 9 => exact mk _ (obj _ (hts _ q204)) rfl
    | 10 => exact mk _ (obj _ (hts _ q821)) rfl
    | k + 11 => exact ⟨0, fun ty h => by simp [am_tys] at h⟩
  exact ⟨fun k => (all k).choose, fun k ty h => (all k).choose_spec ty h⟩
theorem am_TSof {n d : String} (h1 : (Cond.laysStatic Bundle.tN n d).before A s = true) (h2 : (Cond.isRef (.static Bundle.tN n d)).before A s = true) : am_TS s.heap.size s.heap n d s := by
  obtain ⟨c, k, i, f, a, cell, hc, hi, hst, ha, hcell, hss, hcls, hlt, hty⟩ := Cond.laysStatic_spec h1
  have hlt2 := (Array.getElem?_eq_some_iff.mp hcell).1
  have hv : ∃ v, (Term.static Bundle.tN n d).eval A s none [] s = some v ∧ am_isR v = true := by
    simp only [Cond.before, Cond.holds, Cond.value] at h2
    cases ht : (Term.static Bundle.tN n d).eval A s none [] s with
    | none => rw [ht] at h2; simp at h2
    | some v => rw [ht] at h2; cases v <;> simp at h2 <;> exact ⟨_, rfl, rfl⟩
  obtain ⟨v, hv1, hv2⟩ := hv
  obtain ⟨-, a', cell', ha', hcell', -, hslot⟩ := Term.static_spec hi hv1
  cases ha.symm.trans ha'
  cases hcell.symm.trans hcell'
  exact ⟨c, k, i, f, a, cell, v, hc, hi, hst, ha, hlt2, hcell, hss, hcls, hlt, hty, hslot, hv2⟩
end WS
