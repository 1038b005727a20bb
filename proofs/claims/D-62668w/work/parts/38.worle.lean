/-! THE WORLD AT THE LAW'S START, 3: am_K, am_E, am_J -/
set_option maxRecDepth 100000
section WT
variable {s : State} {A : Array Value}
theorem am_flat2 {l1 l2 : List Nat} {f : Nat → Nat → Cond} {p : Nat → Nat → Bool} {a b : Nat} (ha : a ∈ l1) (hb : b ∈ l2) (hp : p a b = true) : f a b ∈ (l1.map (fun a => (l2.filter (p a)).map (f a))).flatten :=
  List.mem_flatten.mpr ⟨_, List.mem_map.mpr ⟨a, ha, rfl⟩, List.mem_map.mpr ⟨b, List.mem_filter.mpr ⟨hb, hp⟩, rfl⟩⟩
theorem am_valsOf {ci : Nat} (h : am_val ci = true) : ci ∈ am_vals := by simp [am_val] at h; simp [am_vals]; omega
theorem am_excsOf {ci : Nat} (h : am_exc ci = true) : ci ∈ am_excs := by simp [am_exc] at h; simp [am_excs]; omega
theorem am_fl3 {l1 l2 : List Nat} {f : Nat → Nat → List Cond} {a b : Nat} {w : Cond} (ha : a ∈ l1) (hb : b ∈ l2) (hw : w ∈ f a b) : w ∈ (l1.map (fun k => (l2.map (fun ci => f k ci)).flatten)).flatten :=
  List.mem_flatten.mpr ⟨_, List.mem_map.mpr ⟨a, ha, rfl⟩, List.mem_flatten.mpr ⟨_, List.mem_map.mpr ⟨b, hb, rfl⟩, hw⟩⟩
theorem am_ifcIn {k ci : Nat} (h : am_imp k ci = true) {w : Cond} (hw : w ∈ am_ifc k ci) : w ∈ lw_tbl := by
  unfold am_imp at h
  split at h
  · rename_i hk
    have h1 : k ∈ [0, 1, 2] := by simp; omega
    have h2 : ci ∈ [5, 6, 7, 8, 9, 10, 14, 15] := by simp [am_into] at h; simp; omega
    exact am_inAll am_w3_ok (am_fl3 (f := am_ifc) h1 h2 hw)
  · simp only [Bool.and_eq_true, decide_eq_true_eq] at h
    have h1 : k ∈ [3, 4, 5] := by simp; omega
    have h2 : ci ∈ [11, 12, 13] := by have h2 := h.2; simp [am_into] at h2; simp; omega
    exact am_inAll am_w4_ok (am_fl3 (f := am_ifc) h1 h2 hw)
set_option maxHeartbeats 4000000 in
theorem am_world (hts : ∀ w ∈ lw_tbl, w.before A s = true) (hs : ∀ w ∈ am_fl0, w.before A s = true) {b L : Nat} {xs : Nat → Int32} (hX : va_X b L xs s s.heap) (hb : b < s.heap.size) :
    ∃ (dC : Nat → ClassId) (dI : Nat → Nat → Nat) (dA : Nat → ClassId) (ad φ : Nat → Nat), am_K dC dI dA ad s.heap.size s.heap s ∧ am_E ad s.heap.size s.heap s ∧ am_F ad s.heap.size φ ∧ φ 0 = b ∧
      am_J dC dI dA s.heap.size s.heap φ (am_tot s.heap) (fun a => if a < 6 then some (.inr (30, [.int (Int32.ofNat a)])) else if a < 24 then some (.inr (31, [.int (Int32.ofNat (a - 6))])) else if a = 24 then some (.inl (20, L, fun j => .int (xs j))) else none, 25, 0) s.heap := by
  have hta : ∀ w ∈ lw_all, w.before A s = true := fun w h => hts w (lw_all_tbl h)
  obtain ⟨ad, cf, kf, fi, fd, e1, e2, e3⟩ := am_enum hts hs
  obtain ⟨dA0, hA0⟩ := am_arrK hts
  obtain ⟨scr, x1, x2, x3, x4, x5⟩ := hX
  obtain ⟨-, -, cell0, z1, z2, z3, z4, z5⟩ := e3 0 (by decide)
  obtain ⟨-, -, cell6, y1, y2, y3, y4, y5⟩ := e3 6 (by decide)
  rw [if_pos (by decide)] at z4
  rw [if_neg (by decide)] at y4
  have hcl : ∀ ci : Nat, ∃ (cC : ClassId) (iS : Nat → Nat), ∀ q, am_cl[ci]? = some q → u_Kn s q.1 q.2.1 q.2.2 cC iS := by
    intro ci
    cases hq : am_cl[ci]? with
    | none => exact ⟨0, fun _ => 0, fun q h => by cases h⟩
    | some q =>
      have hok := am_clAll ci q hq
      obtain ⟨cC, iS, h1⟩ := u_known (args := A) hta hok.1 (hta _ hok.2.2.2.1)
      exact ⟨cC, iS, fun q' h' => by cases h'; exact h1⟩
  obtain ⟨dC0, hdC0⟩ : ∃ dC0 : Nat → ClassId, ∀ ci, ∃ iS : Nat → Nat, ∀ q, am_cl[ci]? = some q → u_Kn s q.1 q.2.1 q.2.2 (dC0 ci) iS := ⟨fun ci => (hcl ci).choose, fun ci => (hcl ci).choose_spec⟩
  obtain ⟨dI0, hdI0⟩ : ∃ dI0 : Nat → Nat → Nat, ∀ ci q, am_cl[ci]? = some q → u_Kn s q.1 q.2.1 q.2.2 (dC0 ci) (dI0 ci) := ⟨fun ci => (hdC0 ci).choose, fun ci => (hdC0 ci).choose_spec⟩
  obtain ⟨-, k9, -, -, st, cell9, -, -, -, -, st1, st2, -, -, -⟩ := Cond.laysStatic_spec (hts _ (am_inAll am_w1_ok (am_rng (show 0 < 24 by decide) (fun i => Cond.laysStatic (am_sta.getD i ("", "", "")).1 (am_sta.getD i ("", "", "")).2.1 (am_sta.getD i ("", "", "")).2.2))))
  obtain ⟨dC, hdC⟩ : ∃ dC : Nat → ClassId, dC = fun ci => if ci = 30 then cell0.cls else if ci = 31 then cell6.cls else dC0 ci := ⟨_, rfl⟩
  obtain ⟨dI, hdI⟩ : ∃ dI : Nat → Nat → Nat, dI = fun ci => if ci = 30 then (fun _ => fd.slot) else if ci = 31 then (fun _ => fd.slot) else dI0 ci := ⟨_, rfl⟩
  obtain ⟨dA, hdA⟩ : ∃ dA : Nat → ClassId, dA = fun k => if k = 20 then scr.cls else dA0 k := ⟨_, rfl⟩
  obtain ⟨φ, hφ⟩ : ∃ φ : Nat → Nat, φ = fun n => if n = 0 then b else if n < 25 then ad (n - 1) else if n = 25 then st else s.heap.size + (n - 26) := ⟨_, rfl⟩
  have dC28 : ∀ ci, ci < 28 → dC ci = dC0 ci := fun ci h => by rw [hdC]; simp only; rw [if_neg (by omega), if_neg (by omega)]
  have hKC : am_KC dC dI s := by
    intro ci q hq
    have h28 : ci < 28 := (List.getElem?_eq_some_iff.mp hq).1
    have h1 := hdI0 ci q hq
    rw [hdC, hdI]
    simp only
    rw [if_neg (by omega), if_neg (by omega), if_neg (by omega), if_neg (by omega)]
    exact h1
  have hcls : ∀ ci, ci < 28 → ∃ q, am_cl[ci]? = some q ∧ q.1 = am_cn ci ∧ ClassAt s (am_cn ci) (dC ci) := by
    intro ci h28
    obtain ⟨q, hq, -⟩ := am_cl_some h28
    exact ⟨q, hq, (am_cn_of hq).symm, by rw [am_cn_of hq]; exact (hKC ci q hq).2⟩
  have hKA : am_KA dA s := by
    refine ⟨fun k ty hk => ?_, ?_⟩
    · have hk11 : k < 11 := (List.getElem?_eq_some_iff.mp hk).1
      rw [hdA]
      simp only
      rw [if_neg (by omega)]
      exact hA0 k ty hk
    · rw [hdA]
      simp only [if_true]
      intro n z
      obtain ⟨g1, k, g2, g3⟩ := x2
      exact ⟨fun _ => by simp [arrV], k, g2, g3⟩
  have hE : am_E ad s.heap.size s.heap s := ⟨cf, kf, fi, fd, e1, e2, fun a ha => by
    obtain ⟨-, g2, cell, g3, g4, g5, g6, g7⟩ := e3 a ha
    exact ⟨g2, cell, g3, g4, g5, g6, g7⟩⟩
  have hcast : ∀ {C T : String} {c : ClassId}, (Cond.castable C T).before A s = true → s.vm.findClass C = some c → ∃ t, s.vm.findClass T = some t ∧ s.vm.assignable c t = true := by
    intro C T c h h1
    obtain ⟨c', t, g1, g2, g3⟩ := Cond.castable_spec h
    cases h1.symm.trans g1
    exact ⟨t, g2, g3⟩
  have hself : ∀ ci, ci < 28 → ∀ C, C = am_cn ci → (∃ t, s.vm.findClass C = some t ∧ s.vm.assignable (dC ci) t = true) ∧ ∃ kv, s.vm.classes[dC ci]? = some kv := by
    rintro ci h28 C rfl
    obtain ⟨q, hq, h1, h2⟩ := hcls ci h28
    obtain ⟨kC, hkC, -⟩ := h2.2
    exact ⟨⟨dC ci, h2.1, va_assign h2⟩, kC, hkC⟩
  have hK : am_K dC dI dA ad s.heap.size s.heap s := by
    refine ⟨hKC, hKA, ?_, ?_, ?_, ?_, ?_, ?_, ?_, ?_, ?_, ?_⟩
    · intro w hw ho
      have h1 := hts w hw
      unfold am_okw at ho
      split at ho
      · exact va_Nw.of rfl h1
      · exact va_Nw.of rfl h1
      · exact va_Nw.of rfl h1
      · exact va_Nw.of rfl h1
      · exact va_AO.of h1
      · cases ho
    · intro k ci hk
      exact va_Fw.of (A := A) (hts _ (am_ifcIn hk (by simp [am_ifc]))) (hts _ (am_ifcIn hk (by simp [am_ifc]))) (hts _ (am_ifcIn hk (by simp [am_ifc]))) (hts _ (am_ifcIn hk (by simp [am_ifc]))) (hts _ (am_ifcIn hk (by simp [am_ifc])))
    · intro i q hq
      have hi : i < 24 := (List.getElem?_eq_some_iff.mp hq).1
      have hq2 : q = am_sta.getD i ("", "", "") := by rw [List.getD_eq_getElem?_getD, hq]; rfl
      subst hq2
      have hini : (Cond.initialized (am_sta.getD i ("", "", "")).1).before A s = true := by
        have hn : (am_sta.getD i ("", "", "")).1 = (if i < 6 then "FunDesk$Sort" else "FunDesk$Op") := (by decide : ∀ i : Fin 24, (am_sta.getD i ("", "", "")).1 = (if (i : Nat) < 6 then "FunDesk$Sort" else "FunDesk$Op")) ⟨i, hi⟩
        rw [hn]
        split
        · exact hts _ (am_inAll am_w2_ok (by simp [am_w2]))
        · exact hts _ (am_inAll am_w2_ok (by simp [am_w2]))
      exact va_Zof (args := A) (hts _ (am_inAll am_w1_ok (am_rng hi (fun i => Cond.laysStatic (am_sta.getD i ("", "", "")).1 (am_sta.getD i ("", "", "")).2.1 (am_sta.getD i ("", "", "")).2.2)))) hini (e3 i hi).1 (fun a h => Nat.not_le.mpr h)
    · exact am_TSof (hts _ (am_inAll am_w2_ok (by simp [am_w2]))) (hs _ (am_inAll am_n5_ok (by simp [am_n5])))
    · exact am_TSof (hts _ (am_inAll am_w2_ok (by simp [am_w2]))) (hs _ (am_inAll am_n5_ok (by simp [am_n5])))
    · intro κ cv C hC hi
      have hk11 : κ < 11 := (List.getElem?_eq_some_iff.mp hC).1
      have h5 : κ = 0 ∨ κ = 1 ∨ κ = 2 ∨ κ = 3 ∨ κ = 4 ∨ κ = 5 ∨ κ = 6 ∨ κ = 7 ∨ κ = 8 ∨ κ = 9 ∨ κ = 10 := by omega
      have key : ∀ T : String, C = T → cv < 28 → (Cond.castable (am_cn cv) T).before A s = true → (∃ t, s.vm.findClass C = some t ∧ s.vm.assignable (dC cv) t = true) ∧ ∃ kv, s.vm.classes[dC cv]? = some kv := by
        rintro T rfl h28 h
        obtain ⟨q, hq, h1, h2⟩ := hcls cv h28
        obtain ⟨kC, hkC, -⟩ := h2.2
        exact ⟨hcast h h2.1, kC, hkC⟩
      rcases h5 with rfl | rfl | rfl | rfl | rfl | rfl | rfl | rfl | rfl | rfl | rfl <;> simp only [am_into] at hi
      · cases hi
      · cases hi
      · cases hi
      · cases hi
      · cases hi
      · have := eq_of_beq hi; subst this; cases hC; exact hself 2 (by decide) _ rfl
      · have := eq_of_beq hi
        subst this
        cases hC
        rw [hdC]
        simp only [if_true]
        rw [if_neg (by decide)]
        obtain ⟨k6, hk6, -⟩ := Vm.findClass_spec y4
        refine ⟨⟨cell6.cls, y4, ?_⟩, k6, hk6⟩
        unfold Vm.assignable Vm.assignableAux
        simp
      · have hh : am_imp 3 cv = true := by simp [am_imp, am_into]; simpa using hi
        cases hC
        exact key "FunDesk$Pattern" rfl (by simp at hi; omega) (hts _ (am_ifcIn (w := .castable (am_cn cv) "FunDesk$Pattern") hh (by simp [am_ifc, am_im])))
      · cases hC
        have h28 : cv < 28 := by simp [am_val] at hi; omega
        exact key "FunDesk$Value" rfl h28 (hts _ (am_inAll am_w5_ok (by unfold am_w5; exact List.mem_append_left _ (List.mem_map.mpr ⟨cv, am_valsOf hi, rfl⟩))))
      · have := eq_of_beq hi; subst this; cases hC; exact hself 21 (by decide) _ rfl
      · have hh : am_imp 0 cv = true := by simp [am_imp, am_into]; simpa using hi
        cases hC
        exact key "FunDesk$Expr" rfl (by simp at hi; omega) (hts _ (am_ifcIn (w := .castable (am_cn cv) "FunDesk$Expr") hh (by simp [am_ifc, am_im])))
    · intro ci T h1 h2 hne
      exact va_Nc.of (hs _ (am_inAll am_n3_ok (am_flat2 (f := fun a b => Cond.not (.castable (am_cn a) (am_cn b))) (p := fun a b => b != a) (am_valsOf h1) (am_valsOf h2) (by simp; exact fun z => hne z.symm))))
    · intro ci T h1 h2
      have c28 : ci < 28 := by simp [am_exc] at h1; omega
      have t28 : T < 28 := by simp [am_exc] at h2; omega
      obtain ⟨-, -, -, g1⟩ := hcls ci c28
      obtain ⟨-, -, -, g2⟩ := hcls T t28
      by_cases hne : T = ci
      · subst hne
        rw [decide_eq_true rfl]
        exact va_assign g1
      · rw [decide_eq_false hne]
        obtain ⟨c, t, m1, m2, m3⟩ := va_Nc.of (hs _ (am_inAll am_n4_ok (am_flat2 (f := fun a b => Cond.not (.castable (am_cn a) (am_cn b))) (p := fun a b => b != a) (am_excsOf h1) (am_excsOf h2) (by simp; exact hne))))
        cases g1.1.symm.trans m1
        cases g2.1.symm.trans m2
        exact m3
    · obtain ⟨k0, hk0, -⟩ := Vm.findClass_spec z4
      refine ⟨?_, ?_, cf, kf, fi, fd, e1, ?_⟩
      · rw [hdC]; simp only [if_true]; exact z4
      · rw [hdC]; simp only [if_true]; exact ⟨k0, hk0⟩
      · rw [hdI]; simp only [if_true]
    · obtain ⟨k6, hk6, -⟩ := Vm.findClass_spec y4
      refine ⟨?_, ?_, cf, kf, fi, fd, e1, ?_⟩
      · rw [hdC]; simp only [if_true]; rw [if_neg (by decide)]; exact y4
      · rw [hdC]; simp only [if_true]; rw [if_neg (by decide)]; exact ⟨k6, hk6⟩
      · rw [hdI]; simp only [if_true]; rw [if_neg (by decide)]
  have φ0 : φ 0 = b := by rw [hφ]; rfl
  have φe : ∀ a, a < 24 → φ (a + 1) = ad a := by
    intro a ha
    rw [hφ]
    simp only
    rw [if_neg (by omega), if_pos (by omega)]
    rfl
  have φn : ∀ a, 25 ≤ a → φ (a + 1) = s.heap.size + (a - 25) := by
    intro a ha
    rw [hφ]
    simp only
    rw [if_neg (by omega), if_neg (by omega), if_neg (by omega)]
    congr 1
  have φs : φ (24 + 1) = st := by rw [hφ]; simp
  have stlt : st < s.heap.size := (Array.getElem?_eq_some_iff.mp st1).1
  have adlt : ∀ a, a < 24 → ad a < s.heap.size := fun a ha => (e3 a ha).2.1
  have adne : ∀ a, a < 24 → ad a ≠ st := by
    intro a ha h
    obtain ⟨-, -, cell, g1, -, g2, -⟩ := e3 a ha
    rw [h, st1] at g1
    cases g1
    rw [st2] at g2
    cases g2
  have adinj : ∀ a b, a < 24 → b < 24 → ad a = ad b → a = b := by
    intro a b' ha hb' h
    obtain ⟨-, -, cell, g1, -, -, g2, g3⟩ := e3 a ha
    obtain ⟨-, -, cell', k1, -, -, k2, k3⟩ := e3 b' hb'
    rw [h, k1] at g1
    cases g1
    have ho : am_ord a = am_ord b' := by
      have := g3.symm.trans k3
      simpa using this
    have hsame : (a < 6) = (b' < 6) := by
      by_cases ha6 : a < 6 <;> by_cases hb6 : b' < 6 <;> simp only [ha6, hb6]
      · rw [if_pos ha6] at g2
        rw [if_neg hb6] at k2
        obtain ⟨kk, q1, q2⟩ := Vm.findClass_spec g2
        obtain ⟨kk', q3, q4⟩ := Vm.findClass_spec k2
        cases q1.symm.trans q3
        exact absurd (q2.symm.trans q4) (by decide)
      · rw [if_neg ha6] at g2
        rw [if_pos hb6] at k2
        obtain ⟨kk, q1, q2⟩ := Vm.findClass_spec g2
        obtain ⟨kk', q3, q4⟩ := Vm.findClass_spec k2
        cases q1.symm.trans q3
        exact absurd (q2.symm.trans q4) (by decide)
    have dec : ∀ a b : Fin 24, (decide ((a : Nat) < 6) = decide ((b : Nat) < 6)) → am_ord a = am_ord b → a = b := by decide
    have := dec ⟨a, ha⟩ ⟨b', hb'⟩ (by simp only [hsame]) ho
    exact congrArg Fin.val this
  have F : am_F ad s.heap.size φ := by
    refine ⟨fun a b' h => ?_, φn, φe⟩
    by_cases h1 : a < 24 <;> by_cases h2 : b' < 24
    · rw [φe a h1, φe b' h2] at h; exact adinj a b' h1 h2 h
    · rw [φe a h1] at h
      have := adlt a h1
      by_cases h3 : b' = 24
      · subst h3; rw [φs] at h; exact absurd h (adne a h1)
      · rw [φn b' (by omega)] at h; omega
    · rw [φe b' h2] at h
      have := adlt b' h2
      by_cases h3 : a = 24
      · subst h3; rw [φs] at h; exact absurd h.symm (adne b' h2)
      · rw [φn a (by omega)] at h; omega
    · by_cases h3 : a = 24 <;> by_cases h4 : b' = 24
      · omega
      · rw [h3, φs, φn b' (by omega)] at h; exact absurd stlt (by rw [h]; exact Nat.not_lt.mpr (Nat.le_add_right _ _))
      · rw [h4, φs, φn a (by omega)] at h; exact absurd stlt (by rw [← h]; exact Nat.not_lt.mpr (Nat.le_add_right _ _))
      · rw [φn a (by omega), φn b' (by omega)] at h; omega
  refine ⟨dC, dI, dA, ad, φ, hK, hE, F, φ0, ⟨?_, ?_, fun q hq => rfl, ?_⟩, Nat.le_refl _, Nat.le_refl _, by show 25 ≤ 601000; decide, by show 0 ≤ 7293000; decide, L, fun j => .int (xs j), by simp, ?_, by rw [φ0]; exact hb⟩
  · show s.heap.size = φ (25 + 1)
    rw [φn 25 (by decide)]
    rfl
  · show s.heap.size ≤ φ (25 + 1)
    rw [φn 25 (by decide)]
    exact Nat.le_add_right _ _
  · intro b' x hb'
    by_cases he : ∃ a, φ (a + 1) = b'
    · obtain ⟨a, rfl⟩ := he
      rw [am_rh_at F.1] at hb'
      unfold am_dr at hb'
      by_cases h24 : a = 24
      · rw [if_pos h24] at hb'; cases hb'
      rw [if_neg h24] at hb'
      by_cases h6 : a < 6
      · simp only [if_pos h6] at hb'
        cases hb'
        obtain ⟨-, -, cell, g1, g2, g3, g4, g5⟩ := e3 a (by omega)
        rw [if_pos h6] at g4
        refine ⟨⟨cell, by rw [φe a (by omega)]; exact g1, ?_, g2, (fun k z => (by rw [z] at g3; cases g3)), (fun z => absurd z (by simp)), ?_⟩, fun z => by simp [am_fc, am_wr] at z⟩
        · rw [hdC]; simp only [if_true]; exact Option.some.inj (g4.symm.trans z4)
        · intro k v hv
          cases k with
          | zero =>
            simp at hv
            subst hv
            rw [hdI]
            simp only [if_true]
            rw [g5]
            simp [am_ord, h6, am_fv]
          | succ k => simp at hv
      · simp only [if_neg h6] at hb'
        by_cases h24' : a < 24
        · simp only [if_pos h24'] at hb'
          cases hb'
          obtain ⟨-, -, cell, g1, g2, g3, g4, g5⟩ := e3 a h24'
          rw [if_neg h6] at g4
          refine ⟨⟨cell, by rw [φe a h24']; exact g1, ?_, g2, (fun k z => (by rw [z] at g3; cases g3)), (fun z => absurd z (by simp)), ?_⟩, fun z => by simp [am_fc, am_wr] at z⟩
          · rw [hdC]; simp only [if_true]; rw [if_neg (by decide)]; exact Option.some.inj (g4.symm.trans y4)
          · intro k v hv
            cases k with
            | zero =>
              simp at hv
              subst hv
              rw [hdI]
              simp only [if_true]
              rw [if_neg (by decide), g5]
              simp [am_ord, h6, am_fv]
            | succ k => simp at hv
        · simp only [if_neg h24', if_neg h24] at hb'
          cases hb'
    · rw [am_rh_out he] at hb'; cases hb'
  · rw [φ0]
    refine ⟨scr, x1, ?_, x3, x2.1, x4, fun j hj => ?_⟩
    · rw [hdA]; simp only [if_true]
    · exact x5 j hj
end WT
