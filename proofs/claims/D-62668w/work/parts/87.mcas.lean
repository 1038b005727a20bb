/-! FunDeskModel, reading: CASE -/
set_option maxRecDepth 100000
section MW
variable {H : sS → Prop} {tx : Nat → Int32} {n f g p p0 p1 dep k k' m m' s s' st j q i l l' cn : Nat} {bn c v x y : Int32} {acc : tE} {r : Option (tE × Nat × Int32)} {D D' D'' : sS} {js : List Nat} {F F' : Nat → Int32}
theorem ch.congr (h : ch F l js) (hc : ∀ i, i ∈ js → F' i = F i) : ch F' l js := by
  induction js generalizing l with
  | nil => exact h
  | cons j js ih =>
    obtain ⟨h1, h2, h3, l', h4, h5⟩ := h
    exact ⟨h1, h2, h3, l', (hc j (List.mem_cons_self ..)).trans h4, ih h5 fun i hi => hc i (List.mem_cons_of_mem _ hi)⟩
theorem pat_gA {E : Int32} (hi : i ∉ js ∨ ¬ q = 517) : gA (pat D E js) q i = gA D q i := by
  induction js generalizing D with
  | nil => rfl
  | cons j js ih =>
    show gA (pat (sA D 517 j E) E js) q i = _
    rw [ih (by rcases hi with hi | hi; exact .inl fun z => hi (List.mem_cons_of_mem _ z); exact .inr hi)]
    refine gA_ne ?_
    rintro ⟨rfl, rfl⟩
    rcases hi with hi | hi
    · exact hi (List.mem_cons_self ..)
    · exact hi rfl
theorem pat_in {E : Int32} (hi : i ∈ js) : gA (pat D E js) 517 i = E := by
  induction js generalizing D with
  | nil => cases hi
  | cons j js ih =>
    show gA (pat (sA D 517 j E) E js) 517 i = _
    by_cases h : i ∈ js
    · exact ih h
    · rw [pat_gA (.inl h)]
      rcases List.mem_cons.mp hi with rfl | h'
      · exact gA_eq
      · exact absurd h' h
theorem pat_r {E : Int32} : (pat D E js).1 = D.1 ∧ (pat D E js).2.1 = D.2.1 ∧ (pat D E js).2.2.2 = D.2.2.2 := by
  induction js generalizing D with
  | nil => exact ⟨rfl, rfl, rfl⟩
  | cons j js ih => exact ih (D := sA D 517 j E)
theorem MFR.pt {E : Int32} (h : MFR k m s D D') (hj : ∀ i, i ∈ js → i < m) : MFR k m s (pat D E js) (pat D' E js) := by
  have e1 := pat_r (D := D) (E := E) (js := js)
  have e2 := pat_r (D := D') (E := E) (js := js)
  refine ⟨fun q hq => ?_, fun q j hq => ?_, e2.2.1.trans (h.2.2.1.trans e1.2.1.symm), e2.2.2.trans (h.2.2.2.trans e1.2.2.symm)⟩
  · show (pat D' E js).1 q = (pat D E js).1 q
    rw [e1.1, e2.1]
    exact h.1 q hq
  · by_cases hi : j ∈ js
    · by_cases hq7 : q = 517
      · subst hq7; rw [pat_in hi, pat_in hi]
      · rw [pat_gA (.inr hq7), pat_gA (.inr hq7)]; exact h.2.1 q j hq
    · rw [pat_gA (.inl hi), pat_gA (.inl hi)]; exact h.2.1 q j hq
theorem RD.pt {E : Int32} {L : List (Nat × Nat × Nat × Nat)} (h : RD (Fdr D) m L) (hj : ∀ i, i ∈ js → i < m ∨ m + L.length ≤ i) : RD (Fdr (pat D E js)) m L := by
  refine h.congr fun q j h1 h2 => ?_
  unfold Fdr
  refine pat_gA (.inl fun z => ?_)
  have := hj j z
  omega
theorem RS.pt {E : Int32} {M : List (Nat × Nat)} (h : RS (Gdr D) m M) : RS (Gdr (pat D E js)) m M := by
  refine h.congr fun q j h1 h2 => ?_
  unfold Gdr
  refine pat_gA (.inr ?_)
  split <;> decide
/-- the clauses from one on, with what closes them -/
def M9 (H : sS → Prop) (tx : Nat → Int32) (n f : Nat) : Prop := ∀ p p0 dep cn r D k m s l js, PR tx n f 9 p (dep + 1) 0 (.natCast cn) = some r → ms D tx n p0 (dep + 1) (k + 2) (m + 1) s → sk tx n p0 = sk tx n p → fr D k 0 10 (i32 m) (i32 (cn * 65536 + l)) → fr D (k + 1) 7 0 0 0 → en D m 16 (i32 s) 0 → gI D 535 = 0 → cn < 5 → l < 124 → ch (gA D 517) l js → (∀ i, i ∈ js → i < m) → js.Nodup → p0 ≤ n → dep + 1 ≤ 16 → k ≤ 7 * dep + p0 → m + 2 ≤ 2 * p0 → s ≤ p0 → (r = none → KB H D) → (∀ cl p' b, r = some (cl, p', b) → ¬ hr tx n (sk tx n p') = 125 → KB H D) → (∀ cl p' b, r = some (cl, p', b) → hr tx n (sk tx n p') = 125 → ∀ D', MFR k m s (pat D (i32 (m + rl cl)) js) D' → ms D' tx n (sk tx n p' + 1) dep k (m + rl cl) (s + sl cl) → p0 < sk tx n p' → sk tx n p' + 1 ≤ n → rl cl + 1 + 2 * p0 ≤ 2 * (sk tx n p' + 1) → sl cl + p0 ≤ sk tx n p' + 1 → RD (Fdr D') m (eL cl none m s (m + rl cl)) → RS (Gdr D') s (eS cl) → H D') → H D
theorem KB.pt {E : Int32} (h : KB H (pat D E js)) : KB H D := by
  intro D' hf hb
  refine h D' ?_ hb
  have e1 := pat_r (D := D) (E := E) (js := js)
  refine ⟨fun q hq => ?_, fun q j hq => ?_, hf.2.2.1.trans e1.2.1.symm, hf.2.2.2.trans e1.2.2.symm⟩
  · show D'.1 q = (pat D E js).1 q
    rw [e1.1]; exact hf.1 q hq
  · rw [pat_gA]
    · exact hf.2.1 q j hq
    · by_cases hq7 : q = 517
      · exact absurd (.inl ⟨.inr (.inl hq7), Nat.zero_le _⟩) hq
      · exact .inr hq7
theorem M9_0 : M9 H tx n 0 := by
  intro p p0 dep cn r D k m s l js hp
  cases hp
theorem lt_u {c : Int32} (h : lt c = true) : nat c < 65536 := by
  unfold lt at h
  simp only [Bool.and_eq_true, Bool.not_eq_true', decide_eq_false_iff_not] at h
  have h2 : c ≤ 122 := Int32.not_lt.mp h.2
  have h1 : (97 : Int32) ≤ c := Int32.not_lt.mp h.1
  rw [Int32.le_iff_toInt_le] at h1 h2
  have e1 : (97 : Int32).toInt = 97 := by decide
  have e2 : (122 : Int32).toInt = 122 := by decide
  unfold nat
  have : c.toNatClampNeg = c.toInt.toNat := rfl
  omega
theorem dgs_u {v : Int32} (h : dgs tx n 4 p = some (v, p1)) : nat v < 65536 := by
  obtain ⟨h1, h2, a, h3, h4⟩ := dgs_i (by decide) h
  have h5 : 10 ^ (p1 - p) ≤ 10 ^ 4 := Nat.pow_le_pow_right (by decide) (by omega)
  have h6 : nat v = a := by
    rw [h3]
    exact i32_nat (by omega)
  omega
theorem PR_pb : ∀ (f g p dep : Nat) (bn : Int32) (acc e : tE) (p' : Nat) (b : Int32), (g = 7 ∨ g = 8) → PR tx n f g p dep bn acc = some (some (e, p', b)) → PB e := by
  intro f
  induction f with
  | zero => intro g p dep bn acc e p' b _ h; cases h
  | succ f ih =>
    intro g p dep bn acc e p' b hg h
    rcases hg with rfl | rfl
    · rw [PR_7] at h
      split at h
      · cases h
      · rcases bd_some h with ⟨_, h⟩ | ⟨q, p1, b1, h1, h2⟩
        · cases h
        · have hq := ih 8 _ _ _ _ _ _ _ (.inr rfl) h1
          split at h2
          · rcases bd_some h2 with ⟨_, h⟩ | ⟨q', p2, b2, h3, h4⟩
            · cases h
            · have hq' := ih 7 _ _ _ _ _ _ _ (.inl rfl) h3
              cases h4
              exact ⟨hq, hq'⟩
          · cases h2; exact hq
    · rw [PR_8] at h
      split at h
      · split at h
        · cases h
        · rename_i v p1 hv
          cases h
          exact ⟨by decide, by decide, dgs_u hv⟩
      split at h
      · cases h; exact ⟨by decide, by decide, by decide⟩
      split at h
      · cases h; exact ⟨by decide, by decide, by decide⟩
      split at h
      · cases h; exact (by decide : 0 < 65536)
      split at h
      · split at h
        · cases h; exact ⟨by decide, by decide, by decide⟩
        · cases h
      split at h
      · rcases bd_some h with ⟨_, h⟩ | ⟨q, p1, b1, h1, h2⟩
        · cases h
        · rcases et_some h2 with ⟨_, h⟩ | ⟨_, h3⟩
          · cases h
          · cases h3
            exact ih 7 _ _ _ _ _ _ _ (.inl rfl) h1
      split at h
      · rename_i hl
        split at h
        · cases h
        · cases h; exact lt_u hl
      · cases h
theorem M9_s (h : ML H tx n f) (h9 : M9 H tx n f) (r10 : R_g10 H tx n) (r11 : R_g11 H tx n) : M9 H tx n (f + 1) := by
  intro p p0 dep cn r D k m s l js hp hm hsk fa fb en0 hbd hcn hl hch hjs hnd b1 b2 b3 b4 b5 hn0 hn1 hy0
  have hn := hm.1.2.1
  rw [PR_9] at hp
  dsimp only at hp
  rw [if_neg (by omega)] at hp
  -- the pattern
  refine h.sub (p0 := p0) (k := k + 1) hp (by omega) hm hsk fb (fun _ => hbd) (BN7 (by omega) (by omega) (by omega) (by omega) (by omega)) hn0 fun pq p1 _ hpq hp D1 q1 f1 m1 e1 l1 n1 w1 v1 _ rg1 => ?_
  have rs1 := rg1.hi (by omega)
  rw [lm_hi (by omega), ls_hi (by omega)] at m1
  rw [ls_hi (by omega)] at v1
  have m1 : ms D1 tx n q1 (dep + 1) (k + 1) (m + 1) (s + (pl pq).length) := m1
  have fa1 := fa.mfr f1 (Nat.lt_succ_self k)
  have en1 := en0.mfr f1 (Nat.lt_succ_self m)
  have B1 : BD n q1 (dep + 1) k (m + 1) (s + (pl pq).length) := ⟨by omega, by omega, by omega, by omega, by omega⟩
  have F1 : MFR k m s D D1 := f1.le (by omega) (by omega) (Nat.le_refl _)
  rcases et_some hp with ⟨hn2, hr2⟩ | ⟨hy2, hp⟩
  · rw [← e1] at hn2
    exact r10 D1 q1 (dep + 1) k _ _ m _ m1 B1 fa1 (by omega) (fun _ => (hn0 hr2).go F1) (fun z => absurd z hn2)
  rw [← e1] at hy2 hp
  have s1 := ch_lt hy2 (by decide)
  have t1 := sk_1 (tx := tx) n1
  refine r10 D1 q1 (dep + 1) k _ _ m _ m1 B1 fa1 (by omega) (fun z => absurd hy2 z) fun _ D2 f2 m2 fa2 fb2 => ?_
  have F2 := F1.trans ((f2.of1 (m' := m) (.inr (.inl rfl)) (by omega) (by omega)).le (k' := k) (m' := m) (s' := s) (Nat.le_refl _) (Nat.le_refl _) (by omega))
  -- its expression
  refine h.lo (p0 := sk tx n q1 + 1) (k := k + 1) hp (by omega) m2 rfl fb2 (BN0 (by omega) (by omega) (by omega) (by omega) (by omega)) (fun z => (hn0 z).go F2) fun e p3 _ hp D3 q3 f3 m3 e3 l3 n3 w3 v3 rd3 rs3 => ?_
  have fa3 := fa2.mfr f3 (Nat.lt_succ_self k)
  have F3 := F2.trans (f3.le (by omega) (by omega) (by omega))
  have B3 : BD n q3 dep k (m + 1 + rl e) (s + (pl pq).length + sl e) := ⟨by omega, by omega, by omega, by omega, by omega⟩
  have c3 : ch (gA D3 517) l js := hch.congr fun i hi => F3.2.1 517 i (by have := hjs i hi; omega)
  have j3 : ∀ i, i ∈ js → i < m + 1 + rl e := fun i hi => by have := hjs i hi; omega
  have a517 : gA D3 517 m = i32 s := (f3.2.1 517 _ (by omega)).trans ((f2.2.1 517 _ (by omega)).trans ((gA_ne (by omega)).trans en1.2.1))
  have a516 : gA D3 516 m = i32 16 := (f3.2.1 516 _ (by omega)).trans ((f2.2.1 516 _ (by omega)).trans ((gA_ne (by omega)).trans en1.1))
  have a518 : gA D3 518 m = i32 (s + (pl pq).length) := (f3.2.1 518 _ (by omega)).trans ((f2.2.1 518 _ (by omega)).trans gA_eq)
  have rs13 : RS (Gdr D3) s (pl pq) := (rs1.mf1 f2 (by omega) (by omega)).mfr f3 (by omega)
  have hmj : m ∉ js := fun z => by have := hjs m z; omega
  have t3 := sk_1 (tx := tx) n3
  have L3 := eL_len e none (m + 1) (s + (pl pq).length) 0
  have S3 : (eS e).length = sl e := rfl
  refine r11 D3 q3 dep k _ _ m s cn l pq js m3 B3 fa3 (by omega) hcn hl c3 j3 a517 a518 (by omega) rs13 (PR_pb _ _ _ _ _ _ _ _ _ (.inl rfl) hpq) hmj hnd ?_ ?_ ?_ ?_
  · intro z1 z2
    rw [e3] at z1
    rw [if_pos z1] at hp
    have : r = none := by
      rcases bd_some hp with ⟨_, e2⟩ | ⟨x1, x2, x3, x4, _⟩
      · exact e2
      · exfalso
        cases f with
        | zero => cases x4
        | succ f =>
          rw [PR_9] at x4
          dsimp only at x4
          rw [if_pos z2] at x4
          cases x4
    exact (hn0 this).go F3
  · intro z1 z2
    rw [e3] at z1 z2
    rw [if_neg z1] at hp
    obtain hp : some (cCons pq e cNil, sk tx n p3, (0 : Int32)) = r := by cases hp; rfl
    exact (hn1 _ _ _ hp.symm (by rw [sk_sk]; exact z2)).go F3
  · intro z1 z2 D4 f4 m4 fa4 fb4 e12 e14 e16 hbd4
    have s3 := ch_lt z1 (by decide)
    rw [e3] at z1
    rw [if_pos z1, ← e3] at hp
    have F4 := F3.trans ((f4.of1 (m' := m) (.inr (.inr rfl)) (by omega) (by omega)).le (k' := k) (m' := m) (s' := s) (Nat.le_refl _) (Nat.le_refl _) (by omega))
    have c4 : ch (gA D4 517) (m + 1 + rl e + 1) ((m + 1 + rl e + 1) :: js) := ⟨rfl, by omega, by omega, l, e14.2.1, hch.congr fun i hi => F4.2.1 517 i (by have := hjs i hi; omega)⟩
    have j4 : ∀ i, i ∈ (m + 1 + rl e + 1) :: js → i < m + 1 + rl e + 2 := by
      intro i hi
      rcases List.mem_cons.mp hi with rfl | h'
      · omega
      · have := hjs i h'; omega
    have fin : ∀ (rr : Option (tE × Nat × Int32)), PR tx n f 9 (sk tx n q3 + 1) (dep + 1) 0 (.natCast (cn + 1)) = some rr → (rr = none → KB H D4) → (∀ cl p' b, rr = some (cl, p', b) → ¬ hr tx n (sk tx n p') = 125 → KB H D4) → (∀ cl p' b, rr = some (cl, p', b) → hr tx n (sk tx n p') = 125 → ∀ D', MFR k (m + 1 + rl e + 2) (s + (pl pq).length + sl e) (pat D4 (i32 (m + 1 + rl e + 2 + rl cl)) ((m + 1 + rl e + 1) :: js)) D' → ms D' tx n (sk tx n p' + 1) dep k (m + 1 + rl e + 2 + rl cl) (s + (pl pq).length + sl e + sl cl) → sk tx n q3 + 1 < sk tx n p' → sk tx n p' + 1 ≤ n → rl cl + 1 + 2 * (sk tx n q3 + 1) ≤ 2 * (sk tx n p' + 1) → sl cl + (sk tx n q3 + 1) ≤ sk tx n p' + 1 → RD (Fdr D') (m + 1 + rl e + 2) (eL cl none (m + 1 + rl e + 2) (s + (pl pq).length + sl e) (m + 1 + rl e + 2 + rl cl)) → RS (Gdr D') (s + (pl pq).length + sl e) (eS cl) → H D') → H D4 := by
      intro rr h1 h2 h3 h4
      exact h9 _ (sk tx n q3 + 1) dep (cn + 1) rr D4 k (m + 1 + rl e + 2) _ (m + 1 + rl e + 1) ((m + 1 + rl e + 1) :: js) h1 m4 rfl fa4 fb4 e16 hbd4 (by omega) (by omega) c4 j4 (List.nodup_cons.mpr ⟨fun z => by have := hjs _ z; omega, hnd⟩) (by omega) (by omega) (by omega) (by omega) (by omega) h2 h3 h4
    rcases bd_some hp with ⟨x1, x2⟩ | ⟨cl, p4, b4, x1, x2⟩
    · exact fin none x1 (fun _ => (hn0 x2).go F4) (fun _ _ _ z => by cases z) (fun _ _ _ z => by cases z)
    · obtain hr4 : some (cCons pq e cl, p4, (0 : Int32)) = r := by cases x2; rfl
      refine fin _ x1 (fun z => by cases z) (fun cl' p' b' z z' => ?_) (fun cl' p' b' z z' D' f5 m5 l5 n5 w5 v5 rd5 rs5 => ?_)
      · cases z; exact (hn1 _ _ _ hr4.symm z').go F4
      · cases z
        have hrl : rl (cCons pq e cl) = rl e + 3 + rl cl := rfl
        have hE : m + rl (cCons pq e cl) = m + 1 + rl e + 2 + rl cl := by rw [hrl]; omega
        have f5' : MFR k (m + 1 + rl e + 2) (s + (pl pq).length + sl e) (pat (sA D4 517 (m + 1 + rl e + 1) (i32 (m + 1 + rl e + 2 + rl cl))) (i32 (m + 1 + rl e + 2 + rl cl)) js) D' := f5
        have P1 : MFR k m s (pat D (i32 (m + 1 + rl e + 2 + rl cl)) js) (pat (sA D4 517 (m + 1 + rl e + 1) (i32 (m + 1 + rl e + 2 + rl cl))) (i32 (m + 1 + rl e + 2 + rl cl)) js) := (F4.set (.inl ⟨.inr (.inl rfl), by omega⟩)).pt hjs
        have low : ∀ q i, i < m + 1 + rl e + 2 → (q = 516 ∨ q = 517 ∨ q = 518 ∨ q = 537) → (i ∉ js ∨ ¬ q = 517) → ¬ (q = 517 ∧ i = m + 1 + rl e + 1) → gA D' q i = gA D4 q i := by
          intro q i h1 h2 h3 h4
          exact (f5'.2.1 q i (by omega)).trans ((pat_gA h3).trans (gA_ne h4))
        have hjm : ∀ i, m ≤ i → i ∉ js := fun i hi z => by have := hjs i z; omega
        refine hy0 _ _ _ hr4.symm z' D' ?_ (m5.cast hE.symm (by rw [sl_cons]; omega)) (by omega) n5 (by rw [hrl]; omega) (by rw [sl_cons]; omega) ?_ ?_
        · rw [hE]; exact P1.trans (f5'.le (Nat.le_refl _) (by omega) (by omega))
        · rw [hE]
          show RD (Fdr D') m ((16, s, s + (pl pq).length, m + 1 + rl e + 2) :: (eL e none (m + 1) (s + (pl pq).length) 0 ++ ((12, (pv pq).length, 0, 0) :: (14, m + 1 + rl e + 2 + rl cl, 0, 0) :: eL cl none (m + 1 + rl e + 2) (s + (pl pq).length + sl e) (m + 1 + rl e + 2 + rl cl))))
          refine ⟨⟨?_, ?_, ?_, fun _ => ?_⟩, ?_⟩
          · exact (low 516 m (by omega) (by omega) (.inl hmj) (by omega)).trans ((f4.2.1 516 m (by omega)).trans ((gA_ne (by omega)).trans a516))
          · exact (low 517 m (by omega) (by omega) (.inl hmj) (by omega)).trans ((f4.2.1 517 m (by omega)).trans ((gA_ne (by omega)).trans a517))
          · exact (low 518 m (by omega) (by omega) (.inl hmj) (by omega)).trans ((f4.2.1 518 m (by omega)).trans ((gA_ne (by omega)).trans a518))
          · exact (low 537 m (by omega) (by omega) (.inl hmj) (by omega)).trans ((f4.2.1 537 m (by omega)).trans gA_eq)
          · rw [RD_app, L3]
            refine ⟨?_, ⟨⟨?_, ?_, ?_, fun z => absurd z (by decide)⟩, ⟨⟨?_, ?_, ?_, fun z => absurd z (by decide)⟩, rd5⟩⟩⟩
            · exact (((rd3.mf1 f4 (by omega) (by omega)).set (.inl (.inr (by omega)))).pt (fun i hi => .inl (by have := hjs i hi; omega))).mfr f5' (by omega)
            · exact (low 516 _ (by omega) (by omega) (.inl (hjm _ (by omega))) (by omega)).trans e12.1
            · exact (low 517 _ (by omega) (by omega) (.inl (hjm _ (by omega))) (by omega)).trans e12.2.1
            · exact (low 518 _ (by omega) (by omega) (.inl (hjm _ (by omega))) (by omega)).trans e12.2.2
            · exact (low 516 _ (by omega) (by omega) (.inl (hjm _ (by omega))) (by omega)).trans e14.1
            · exact (f5.2.1 517 _ (by omega)).trans (pat_in (List.mem_cons_self ..))
            · exact (low 518 _ (by omega) (by omega) (.inl (hjm _ (by omega))) (by omega)).trans e14.2.2
        · show RS (Gdr D') s (pl pq ++ (eS e ++ eS cl))
          rw [RS_app, RS_app]
          refine ⟨(((rs13.mf1 f4 (by omega) (by omega)).set (.inr (by decide))).pt).mfr f5' (by omega), (((rs3.mf1 f4 (by omega) (by omega)).set (.inr (by decide))).pt).mfr f5' (by omega), rs5⟩
  · intro z1 D4 f4 m4 e12 e14 e17
    have s3 := ch_lt z1 (by decide)
    rw [e3] at z1
    have z2 : ¬ hr tx n (sk tx n p3) = 124 := fun z => by rw [z1] at z; revert z; decide
    rw [if_neg z2] at hp
    obtain hr4 : some (cCons pq e cNil, sk tx n p3, (0 : Int32)) = r := by cases hp; rfl
    have hrl : rl (cCons pq e cNil) = rl e + 3 + 1 := rfl
    have hE : m + rl (cCons pq e cNil) = m + 1 + rl e + 3 := by rw [hrl]; omega
    have hsl : sl (cCons pq e cNil) = (pl pq).length + sl e := by rw [sl_cons]; rfl
    have P1 : MFR k m s (pat D (i32 (m + 1 + rl e + 3)) js) (pat (sA D3 537 m (i32 (m + 1 + rl e + 2))) (i32 (m + 1 + rl e + 3)) js) := (F3.set (.inl ⟨.inr (.inr (.inr rfl)), by omega⟩)).pt hjs
    have low : ∀ q i, i < m + 1 + rl e → (q = 516 ∨ q = 517 ∨ q = 518 ∨ q = 537) → (i ∉ js ∨ ¬ q = 517) → ¬ (q = 537 ∧ i = m) → gA D4 q i = gA D3 q i := by
      intro q i h1 h2 h3 h4
      exact (f4.2.1 q i (by omega)).trans ((pat_gA h3).trans (gA_ne h4))
    refine hy0 _ _ _ hr4.symm (by rw [sk_sk]; exact z1) D4 ?_ ?_ ?_ ?_ ?_ ?_ ?_ ?_
    · rw [hE]; exact P1.trans (f4.le (Nat.le_refl _) (by omega) (by omega))
    · rw [sk_sk, ← e3]; exact m4.cast hE.symm (by rw [hsl]; omega)
    · rw [sk_sk, ← e3]; omega
    · rw [sk_sk, ← e3]; omega
    · rw [sk_sk, ← e3, hrl]; omega
    · rw [sk_sk, ← e3, hsl]; omega
    · rw [hE]
      show RD (Fdr D4) m ((16, s, s + (pl pq).length, m + 1 + rl e + 2) :: (eL e none (m + 1) (s + (pl pq).length) 0 ++ ((12, (pv pq).length, 0, 0) :: (14, m + 1 + rl e + 3, 0, 0) :: [(17, 0, 0, 0)])))
      refine ⟨⟨?_, ?_, ?_, fun _ => ?_⟩, ?_⟩
      · exact (low 516 m (by omega) (by omega) (.inl hmj) (by omega)).trans a516
      · exact (low 517 m (by omega) (by omega) (.inl hmj) (by omega)).trans a517
      · exact (low 518 m (by omega) (by omega) (.inl hmj) (by omega)).trans a518
      · exact (f4.2.1 537 m (by omega)).trans ((pat_gA (.inr (by decide))).trans gA_eq)
      · rw [RD_app, L3]
        refine ⟨?_, ⟨⟨e12.1, e12.2.1, e12.2.2, fun z => absurd z (by decide)⟩, ⟨⟨e14.1, e14.2.1, e14.2.2, fun z => absurd z (by decide)⟩, ⟨⟨e17.1, e17.2.1, e17.2.2, fun z => absurd z (by decide)⟩, trivial⟩⟩⟩⟩
        exact ((rd3.set (.inl (.inl (by omega)))).pt (fun i hi => .inl (by have := hjs i hi; omega))).mfr f4 (by omega)
    · show RS (Gdr D4) s (pl pq ++ (eS e ++ []))
      rw [RS_app, List.append_nil]
      exact ⟨((rs13.set (.inr (by decide))).pt).mfr f4 (by omega), ((rs3.set (.inr (by decide))).pt).mfr f4 (by omega)⟩
theorem l_case (h : ML H tx n f) (h9 : M9 H tx n f) (r1 : R_e1 H tx n) (r8 : R_g8 H tx n)
    (hp : (bd (PR tx n f 0 (sk tx n p + 1) (dep + 1) 0 acc) fun w p1 _ => et tx n 123 p1 fun p2 => bd (PR tx n f 9 p2 (dep + 1) 0 (.natCast 0)) fun cl p3 _ => et tx n 125 p3 fun p4 => rok (eCase w cl) p4 0) = some r)
    (hm : ms D tx n p0 dep (k + 1) m s) (hsk : sk tx n p0 = sk tx n p) (hfr : fr D k 0 0 0 0) (hB : BN n p0 dep k m s 0) (hc : hr tx n (sk tx n p0) = 35) (hdep : ¬ 16 < dep + 1) (hR : MR H tx n D p0 dep k m s 0 r) : H D := by
  have hn := hm.1.2.1
  have hB' := hB
  obtain ⟨b1, b2, b3, b4, b5⟩ := hB
  have b3 : k ≤ 7 * dep + p0 := b3
  have s0 := sk_1 (tx := tx) b1
  have s1 := ch_lt hc (by decide)
  refine r1 D p0 dep k m s 8 35 hm (hB'.bd hn) hfr (.inr ⟨rfl, rfl⟩) hc (fun z => absurd z hdep) fun _ D1 f1 m1 fa fb => ?_
  refine h.lo (p0 := sk tx n p0 + 1) (k := k + 1) hp (by omega) m1 (by rw [hsk]) fb (BN0 (by omega) (by omega) (by omega) (by omega) (by omega)) (fun z => (hR.bad z).go f1) fun t p1 _ hp D2 q2 f2 m2 e2 l2 n2 w2 v2 rd2 rs2 => ?_
  have B2 : BD n q2 (dep + 1) k (m + rl t) (s + sl t) := ⟨by omega, by omega, by omega, by omega, by omega⟩
  have fa2 := fa.mfr f2 (Nat.lt_succ_self k)
  have F2 := f1.trans (f2.le (by omega) (Nat.le_refl _) (Nat.le_refl _))
  rcases et_some hp with ⟨hn2, hr2⟩ | ⟨hy2, hp⟩
  · rw [← e2] at hn2
    exact r8 D2 q2 (dep + 1) k _ _ m2 B2 fa2 (fun _ => (hR.bad hr2).go F2) (fun z => absurd z hn2)
  rw [← e2] at hy2 hp
  have s2 := ch_lt hy2 (by decide)
  have t2 := sk_1 (tx := tx) n2
  refine r8 D2 q2 (dep + 1) k _ _ m2 B2 fa2 (fun z => absurd hy2 z) fun _ D3 f3 m3 fa3 fb3 e15 e16 hbd => ?_
  have F3 := F2.trans (f3.le (Nat.le_refl _) (by omega) (by omega))
  have fin : ∀ (rr : Option (tE × Nat × Int32)), PR tx n f 9 (sk tx n q2 + 1) (dep + 1) 0 (.natCast 0) = some rr → (rr = none → KB H D3) → (∀ cl p' b, rr = some (cl, p', b) → ¬ hr tx n (sk tx n p') = 125 → KB H D3) → (∀ cl p' b, rr = some (cl, p', b) → hr tx n (sk tx n p') = 125 → ∀ D', MFR k (m + rl t + 1) (s + sl t) D3 D' → ms D' tx n (sk tx n p' + 1) dep k (m + rl t + 1 + rl cl) (s + sl t + sl cl) → sk tx n q2 + 1 < sk tx n p' → sk tx n p' + 1 ≤ n → rl cl + 1 + 2 * (sk tx n q2 + 1) ≤ 2 * (sk tx n p' + 1) → sl cl + (sk tx n q2 + 1) ≤ sk tx n p' + 1 → RD (Fdr D') (m + rl t + 1) (eL cl none (m + rl t + 1) (s + sl t) (m + rl t + 1 + rl cl)) → RS (Gdr D') (s + sl t) (eS cl) → H D') → H D3 := by
    intro rr h1 h2 h3 h4
    exact h9 _ (sk tx n q2 + 1) dep 0 rr D3 k (m + rl t + 1) _ 0 [] h1 m3 rfl fa3 fb3 e16 hbd (by omega) (by omega) rfl (fun i hi => by cases hi) List.nodup_nil (by omega) (by omega) (by omega) (by omega) (by omega) h2 h3 h4
  rcases bd_some hp with ⟨x1, x2⟩ | ⟨cl, p4, b4, x1, x2⟩
  · exact fin none x1 (fun _ => (hR.bad x2).go F3) (fun _ _ _ z => by cases z) (fun _ _ _ z => by cases z)
  · rcases et_some x2 with ⟨hn4, hr4⟩ | ⟨hy4, hp⟩
    · refine fin _ x1 (fun z => by cases z) (fun _ _ _ z z' => (hR.bad hr4).go F3) (fun cl' p' b' z z' => ?_)
      cases z; exact absurd z' hn4
    · refine fin _ x1 (fun z => by cases z) (fun cl' p' b' z z' => ?_) (fun cl' p' b' z z' D' f5 m5 l5 n5 w5 v5 rd5 rs5 => ?_)
      · cases z; exact absurd hy4 z'
      · cases z
        have hrl : rl (eCase t cl) = rl t + 1 + rl cl := rfl
        have L2 := eL_len t none m s 0
        have S2 : (eS t).length = sl t := rfl
        have a5 := e15.mfr f5 (Nat.lt_succ_self _)
        refine (hR.good hp).lo (by omega) D' _ (F3.trans (f5.le (Nat.le_refl _) (by omega) (by omega))) (m5.cast (by rw [hrl]; omega) (by rw [sl_case]; omega)) rfl (by omega) (by omega) (by rw [hrl]; omega) (by rw [sl_case]; omega) ?_ ?_
        · show RD (Fdr D') m (eL t none m s 0 ++ ((15, 0, 0, 0) :: eL cl none (m + rl t + 1) (s + sl t) (m + rl t + 1 + rl cl)))
          rw [RD_app, L2]
          exact ⟨(rd2.mfr f3 (by omega)).mfr f5 (by omega), ⟨⟨a5.1, a5.2.1, a5.2.2, fun z => absurd z (by decide)⟩, rd5⟩⟩
        · show RS (Gdr D') s (eS t ++ eS cl)
          rw [RS_app]
          exact ⟨(rs2.mfr f3 (by omega)).mfr f5 (by omega), rs5⟩
end MW
