/-! FunDeskModel, reading: ATOM, PATTERN, PART, and all -/
set_option maxRecDepth 100000
section MY
variable {H : sS → Prop} {tx : Nat → Int32} {n f g p p0 p1 dep k k' m m' s s' st j q i l l' cn : Nat} {bn c v x y : Int32} {acc : tE} {r : Option (tE × Nat × Int32)} {D D' D'' : sS} {F : tE → Nat → Int32 → tR}
theorem KO.one {e : tE} {b : Int32} {a t u : Nat} (h : KO H tx n D p0 dep k m s 6 e p b) (he : eL e none m s 0 = [(a, t, u, 0)]) (hs : eS e = []) (hf : MFR k m s D D') (hm : ms D' tx n p dep k (m + 1) s) (hp : p0 < p) (hpn : p ≤ n) (hen : en D' m a (i32 t) (i32 u)) (ha : ¬ a = 16) : H D' := by
  have L := eL_len e none m s 0
  rw [he] at L
  have L : 1 = rl e := L
  have S : sl e = 0 := by unfold sl; rw [hs]; rfl
  refine h.lo (by omega) D' p hf (hm.cast (by omega) (by omega)) rfl hp hpn (by omega) (by omega) ?_ ?_
  · rw [he]; exact ⟨⟨hen.1, hen.2.1, hen.2.2, fun z => absurd z ha⟩, trivial⟩
  · rw [hs]; trivial
theorem l_atom (h : ML H tx n f) (a0 : R_a0 H tx n) (a1 : R_a1 H tx n) (a2 : R_a2 H tx n) (a3 : R_a3 H tx n) (a4 : R_a4 H tx n) (a5 : R_a5 H tx n) (a6 : R_a6 H tx n)
    (hp : PR tx n (f + 1) 6 p dep bn acc = some r)
    (hm : ms D tx n p0 dep (k + 1) m s) (hsk : sk tx n p0 = sk tx n p) (hfr : fr D k 6 0 0 0) (hB : BN n p0 dep k m s 6) (hR : MR H tx n D p0 dep k m s 6 r) : H D := by
  have hn := hm.1.2.1
  have hBD := hB.bd hn
  have b3 := hB.gg (by omega) (by omega)
  obtain ⟨b1, b2, _, b4, b5⟩ := hB
  have s0 := sk_1 (tx := tx) b1
  rw [PR_6, ← hsk] at hp
  split at hp
  case isFalse hb => exact a0 D p0 dep k m s 0 0 hm hBD hfr hb (hR.bad (by cases hp; rfl))
  rename_i hb
  have hlt := bg_lt hb
  split at hp
  · rename_i hd
    refine a1 D p0 dep k m s 0 0 hm hBD hfr hd (fun z => ?_) (fun v p1 z z1 z2 => ?_) (fun v p1 z z1 D' f1 m1 e1 => ?_) (fun v p1 v2 p2 z z1 z2 D' f1 m1 e1 => ?_)
    · rw [z] at hp; exact hR.bad (by cases hp; rfl)
    · rw [z] at hp; dsimp only at hp; rw [if_pos z1, z2] at hp; exact hR.bad (by cases hp; rfl)
    · rw [z] at hp; dsimp only at hp; rw [if_neg z1] at hp
      have := dgs_i (by decide) z
      have h2 := dgs_n (by decide) s0.2 z
      exact KO.one (a := 0) (u := 0) (hR.good hp) rfl rfl f1 m1 (by omega) h2 e1 (by decide)
    · rw [z] at hp; dsimp only at hp; rw [if_pos z1, z2] at hp; dsimp only at hp
      have := dgs_i (by decide) z
      have h3 := ch_lt z1 (by decide)
      have := dgs_i (by decide) z2
      have h2 := dgs_n (by decide) (by omega) z2
      exact KO.one (a := 2) (u := 0) (hR.good hp) rfl rfl f1 m1 (by omega) h2 e1 (by decide)
  split at hp
  · rename_i hd e
    exact a2 D p0 dep k m s 0 0 1 1 0 84 hm hBD hfr e (.inl ⟨rfl, rfl, rfl, rfl⟩) fun D' f1 m1 e1 => KO.one (a := 1) (u := 0) (hR.good hp) rfl rfl f1 m1 (by omega) (by omega) e1 (by decide)
  split at hp
  · rename_i hd _ e
    exact a2 D p0 dep k m s 0 0 1 0 0 70 hm hBD hfr e (.inr (.inl ⟨rfl, rfl, rfl, rfl⟩)) fun D' f1 m1 e1 => KO.one (a := 1) (u := 0) (hR.good hp) rfl rfl f1 m1 (by omega) (by omega) e1 (by decide)
  split at hp
  · rename_i hd _ _ e
    exact a2 D p0 dep k m s 0 0 4 82 0 82 hm hBD hfr e (.inr (.inr (.inl ⟨rfl, rfl, rfl, rfl⟩))) fun D' f1 m1 e1 => KO.one (a := 4) (u := 0) (hR.good hp) rfl rfl f1 m1 (by omega) (by omega) e1 (by decide)
  split at hp
  · rename_i hd _ _ _ e
    exact a2 D p0 dep k m s 0 0 4 73 0 73 hm hBD hfr e (.inr (.inr (.inr (.inl ⟨rfl, rfl, rfl, rfl⟩)))) fun D' f1 m1 e1 => KO.one (a := 4) (u := 0) (hR.good hp) rfl rfl f1 m1 (by omega) (by omega) e1 (by decide)
  split at hp
  · rename_i e
    refine a4 D p0 dep k m s 0 0 126 1 6 hm hBD hfr (.inl ⟨rfl, rfl, rfl⟩) e fun D1 f1 m1 fa fb => ?_
    refine h.lo (p0 := sk tx n p0 + 1) (k := k + 1) hp (by omega) m1 rfl fb (BNg (by omega) (by omega) (by omega) b2 (by omega) (by omega) (by omega)) (fun z => (hR.bad z).go f1) fun t p1 _ hp D2 q2 f2 m2 e2 l2 n2 w2 v2 rd2 rs2 => ?_
    have fa2 := fa.mfr f2 (Nat.lt_succ_self k)
    have F2 := f1.trans (f2.le (by omega) (Nat.le_refl _) (Nat.le_refl _))
    have B2 : BD n q2 dep k (m + rl t) (s + sl t) := ⟨by omega, by omega, by omega, by omega, by omega⟩
    have t2 := sk_1 (tx := tx) n2
    refine a5 D2 q2 dep k _ _ 0 0 m2 B2 fa2 fun D3 f3 m3 e3 => ?_
    have L2 := eL_len t none m s 0
    have S2 : (eS t).length = sl t := rfl
    have hrl : rl (eNeg t) = rl t + 1 := rfl
    have hsl : sl (eNeg t) = sl t := rfl
    refine (hR.good hp).lo (by omega) D3 _ (F2.trans (f3.le (Nat.le_refl _) (by omega) (by omega))) (m3.cast (by rw [hrl]; omega) (by rw [hsl])) (by rw [sk_sk]; exact e2) (by omega) t2.2 (by rw [hrl]; omega) (by rw [hsl]; omega) ?_ (rs2.mfr f3 (by omega))
    show RD (Fdr D3) m (eL t none m s 0 ++ [(9, 126, 0, 0)])
    rw [RD_app, L2]
    exact ⟨rd2.mfr f3 (by omega), ⟨⟨e3.1, e3.2.1, e3.2.2, fun z => absurd z (by decide)⟩, trivial⟩⟩
  split at hp
  · rename_i e
    refine a3 D p0 dep k m s 0 0 hm hBD hfr e (fun z => ?_) (fun z D' f1 m1 e1 => ?_)
    · rw [if_neg z] at hp; exact hR.bad (by cases hp; rfl)
    · rw [if_pos z] at hp
      have := ch_lt z (by decide)
      exact KO.one (a := 3) (u := 0) (hR.good hp) rfl rfl f1 m1 (by omega) (by omega) e1 (by decide)
  split at hp
  · rename_i e
    refine a4 D p0 dep k m s 0 0 40 2 0 hm hBD hfr (.inr ⟨rfl, rfl, rfl⟩) e fun D1 f1 m1 fa fb => ?_
    refine h.lo (p0 := sk tx n p0 + 1) (k := k + 1) hp (by omega) m1 rfl fb (BN0 (by omega) b2 (by omega) (by omega) (by omega)) (fun z => (hR.bad z).go f1) fun t p1 _ hp D2 q2 f2 m2 e2 l2 n2 w2 v2 rd2 rs2 => ?_
    have fa2 := fa.mfr f2 (Nat.lt_succ_self k)
    have F2 := f1.trans (f2.le (by omega) (Nat.le_refl _) (Nat.le_refl _))
    have B2 : BD n q2 dep k (m + rl t) (s + sl t) := ⟨by omega, by omega, by omega, by omega, by omega⟩
    have t2 := sk_1 (tx := tx) n2
    have L2 := eL_len t none m s 0
    have S2 : (eS t).length = sl t := rfl
    rcases et_some hp with ⟨hn2, hr2⟩ | ⟨hy2, hp⟩
    · rw [← e2] at hn2
      exact a6 D2 q2 dep k _ _ 0 0 m2 B2 fa2 (fun _ => (hR.bad hr2).go F2) (fun z => absurd z hn2)
    rw [← e2] at hy2 hp
    have s2 := ch_lt hy2 (by decide)
    refine a6 D2 q2 dep k _ _ 0 0 m2 B2 fa2 (fun z => absurd hy2 z) fun _ D3 f3 m3 => ?_
    exact (hR.good hp).lo (by omega) D3 _ (F2.trans (f3.le (Nat.le_refl _) (by omega) (by omega))) m3 rfl (by omega) (by omega) (by omega) (by omega) (rd2.mfr f3 (by omega)) (rs2.mfr f3 (by omega))
  · rename_i hd h84 h70 h82 h73 h126 h91 h40
    have hl : lt (hr tx n (sk tx n p0)) = true := by
      unfold bg at hb
      simp_all
    exact a2 D p0 dep k m s 0 0 5 0 (nat (hr tx n (sk tx n p0))) _ hm hBD hfr rfl (.inr (.inr (.inr (.inr ⟨hl, rfl, rfl, rfl⟩)))) fun D' f1 m1 e1 => KO.one (a := 5) (t := 0) (u := nat (hr tx n (sk tx n p0))) (hR.good hp) rfl rfl f1 m1 (by omega) (by omega) e1 (by decide)
theorem KO.hi {e : tE} {b : Int32} (h : KO H tx n D p0 dep k m s g e p b) (hg : ¬ g < 7) : ∀ D' p1, MFR k m s D D' → ms D' tx n p1 dep k m (s + (pl e).length) → sk tx n p1 = sk tx n p → p0 < p1 → p1 ≤ n → (pl e).length + p0 ≤ p1 → gI D' 535 = b → RS (Gdr D') s (pl e) → H D' := by
  intro D' p1 a1 a2 a3 a4 a5 a7 a8 a9
  refine h D' p1 a1 ?_ a3 a4 a5 ?_ ?_ (fun _ => a8) (.oh hg a9)
  · rw [lm_hi hg, ls_hi hg]; exact a2
  · rw [lm_hi hg]; omega
  · rw [ls_hi hg]; exact a7
theorem ML.hi (h : ML H tx n f) (hb : bd (PR tx n f g p dep bn acc) F = some r) (hg : ¬ g < 7) (hg8 : g ≤ 8) (hm : ms D tx n p0 dep (k + 1) m s) (hsk : sk tx n p0 = sk tx n p) (hfr : fr D k g 0 0 0) (hbn : gI D 535 = bn) (hB : BN n p0 dep k m s g) (h0 : r = none → KB H D) (h1 : ∀ e p' b, F e p' b = some r → ∀ D' p1, MFR k m s D D' → ms D' tx n p1 dep k m (s + (pl e).length) → sk tx n p1 = sk tx n p' → p0 < p1 → p1 ≤ n → (pl e).length + p0 ≤ p1 → gI D' 535 = b → RS (Gdr D') s (pl e) → H D') : H D := by
  refine h.sub hb hg8 hm hsk hfr (fun _ => hbn) hB h0 fun e p' b _ he D' p1 a1 a2 a3 a4 a5 a6 a7 a8 a9 => ?_
  rw [lm_hi hg, ls_hi hg] at a2
  rw [ls_hi hg] at a7
  exact h1 e p' b he D' p1 a1 a2 a3 a4 a5 a7 (a8 (by omega)) (a9.hi hg)
theorem l_pat (h : ML H tx n f) (p0' : R_p0 H tx n) (p1' : R_p1 H tx n) (p2' : R_p2 H tx n)
    (hp : PR tx n (f + 1) 7 p dep bn acc = some r)
    (hm : ms D tx n p0 dep (k + 1) m s) (hsk : sk tx n p0 = sk tx n p) (hfr : fr D k 7 0 0 0) (hbn : gI D 535 = bn) (hB : BN n p0 dep k m s 7) (hR : MR H tx n D p0 dep k m s 7 r) : H D := by
  have hn := hm.1.2.1
  have hBD := hB.bd hn
  obtain ⟨b1, b2, b3, b4, b5⟩ := hB
  have b3 : k ≤ 7 * dep + p0 := b3
  rw [PR_7] at hp
  refine p0' D p0 dep k m s 0 0 hm hBD hfr (fun z => ?_) (fun hdep D1 f1 m1 fa fb hb1 => ?_)
  · rw [if_pos z] at hp; exact hR.bad (by cases hp; rfl)
  rw [if_neg hdep] at hp
  refine h.hi (p0 := p0) (k := k + 1) hp (by omega) (by omega) m1 hsk fb (hb1.trans hbn) (BN8 (by omega) (by omega) (by omega) (by omega) (by omega)) (fun z => (hR.bad z).go f1) fun e p1 bb hp D2 q2 f2 m2 e2 l2 n2 v2 hb2 rs2 => ?_
  have fa2 := fa.mfr f2 (Nat.lt_succ_self k)
  have F2 := f1.trans (f2.le (by omega) (Nat.le_refl _) (Nat.le_refl _))
  have B2 : BD n q2 dep k m (s + (pl e).length) := ⟨by omega, by omega, by omega, by omega, by omega⟩
  have t2 := sk_1 (tx := tx) n2
  refine p1' D2 q2 dep k m _ s 0 m2 B2 fa2 (by omega) (fun z D3 f3 m3 fa3 fb3 hb3 g4 g5 hsh => ?_) (fun z D3 f3 m3 hb3 => ?_)
  · have s2 := ch_lt z (by decide)
    rw [e2] at z
    rw [if_pos z, ← e2] at hp
    have F3 := F2.trans f3
    refine h.hi (p0 := sk tx n q2 + 1) (k := k + 1) hp (by omega) (by omega) m3 rfl fb3 (hb3.trans hb2) (BN7 (by omega) (by omega) (by omega) (by omega) (by omega)) (fun z => (hR.bad z).go F3) fun e' p4 b4 hp D4 q4 f4 m4 e4 l4 n4 v4 hb4 rs4 => ?_
    have fa4 := fa3.mfr f4 (Nat.lt_succ_self k)
    have F4 := F3.trans (f4.le (by omega) (Nat.le_refl _) (by omega))
    have B4 : BD n q4 dep k m (s + (pl e).length + 1 + (pl e').length) := ⟨by omega, by omega, by omega, by omega, by omega⟩
    refine p2' D4 q4 dep k m _ _ 0 m4 B4 fa4 fun D5 f5 m5 hb5 => ?_
    have hpl : (pl (pBoth e e')).length = (pl e).length + (pl e').length + 1 := by
      show ((0, 0) :: (pl e ++ pl e')).length = _
      rw [List.length_cons, List.length_append]
    have rs3 : RS (Gdr D3) (s + 1) (pl e) := rs2.shift fun q j h1 h2 => by
      unfold Gdr
      exact hsh _ j (by split <;> omega) h1 h2
    refine (hR.good hp).hi (by omega) D5 q4 (F4.trans (f5.le (Nat.le_refl _) (Nat.le_refl _) (by omega))) (m5.cast rfl (by rw [hpl]; omega)) e4 (by omega) n4 (by rw [hpl]; omega) (hb5.trans hb4) ?_
    show RS (Gdr D5) s ((0, 0) :: (pl e ++ pl e'))
    refine ⟨⟨?_, ?_⟩, ?_⟩
    · exact (f5.2.1 524 s (by omega)).trans ((f4.2.1 524 s (by omega)).trans g4)
    · exact (f5.2.1 525 s (by omega)).trans ((f4.2.1 525 s (by omega)).trans g5)
    · rw [RS_app]
      refine ⟨(rs3.mfr f4 (by omega)).mfr f5 (by omega), ?_⟩
      have e9 : s + 1 + (pl e).length = s + (pl e).length + 1 := by omega
      rw [e9]
      exact rs4.mfr f5 (by omega)
  · rw [e2] at z
    rw [if_neg z, ← e2] at hp
    exact (hR.good hp).hi (by omega) D3 _ (F2.trans (f3.le (Nat.le_refl _) (Nat.le_refl _) (by omega))) m3 rfl (by omega) t2.2 (by omega) (hb3.trans hb2) (rs2.mfr f3 (by omega))
theorem KO.sg {e : tE} {b : Int32} {a t : Nat} (h : KO H tx n D p0 dep k m s 8 e p b) (he : pl e = [(a, t)]) (hf : MFR k m s D D') (hm : ms D' tx n p dep k m (s + 1)) (hp : p0 < p) (hpn : p ≤ n) (h4 : gA D' 524 s = i32 a) (h5 : gA D' 525 s = i32 t) (hb : gI D' 535 = b) : H D' := by
  have L : (pl e).length = 1 := by rw [he]; rfl
  refine h.hi (by omega) D' p hf (hm.cast rfl (by omega)) rfl hp hpn (by omega) hb ?_
  rw [he]; exact ⟨⟨h4, h5⟩, trivial⟩
theorem l_part (h : ML H tx n f) (q1 : R_q1 H tx n) (q2 : R_q2 H tx n) (q3 : R_q3 H tx n) (q4 : R_q4 H tx n) (q5 : R_q5 H tx n) (q6 : R_q6 H tx n) (q7 : R_q7 H tx n)
    (hp : PR tx n (f + 1) 8 p dep bn acc = some r)
    (hm : ms D tx n p0 dep (k + 1) m s) (hsk : sk tx n p0 = sk tx n p) (hfr : fr D k 8 0 0 0) (hbn : gI D 535 = bn) (hB : BN n p0 dep k m s 8) (hR : MR H tx n D p0 dep k m s 8 r) : H D := by
  have hn := hm.1.2.1
  have hBD := hB.bd hn
  obtain ⟨b1, b2, b3, b4, b5⟩ := hB
  have b3 : k + 6 ≤ 7 * dep + p0 := b3
  have s0 := sk_1 (tx := tx) b1
  rw [PR_8, ← hsk] at hp
  split at hp
  · rename_i hd
    refine q1 D p0 dep k m s 0 0 hm hBD hfr hd (fun z => ?_) (fun v p1 z D' f1 m1 h4 h5 hb1 => ?_)
    · rw [z] at hp; exact hR.bad (by cases hp; rfl)
    · rw [z] at hp
      dsimp only at hp
      have := dgs_i (by decide) z
      have h2 := dgs_n (by decide) s0.2 z
      exact KO.sg (a := 2) (hR.good hp) rfl f1 m1 (by omega) h2 h4 h5 (hb1.trans hbn)
  rename_i hd
  split at hp
  · rename_i e
    have hlt := ch_lt e (by decide)
    exact q2 D p0 dep k m s 0 0 3 1 84 hm hBD hfr e (.inl ⟨rfl, rfl, rfl⟩) fun D' f1 m1 h4 h5 hb1 => KO.sg (a := 3) (hR.good hp) rfl f1 m1 (by omega) (by omega) h4 h5 (hb1.trans hbn)
  split at hp
  · rename_i e
    have hlt := ch_lt e (by decide)
    exact q2 D p0 dep k m s 0 0 3 0 70 hm hBD hfr e (.inr (.inl ⟨rfl, rfl, rfl⟩)) fun D' f1 m1 h4 h5 hb1 => KO.sg (a := 3) (hR.good hp) rfl f1 m1 (by omega) (by omega) h4 h5 (hb1.trans hbn)
  split at hp
  · rename_i e
    have hlt := ch_lt e (by decide)
    exact q2 D p0 dep k m s 0 0 1 0 95 hm hBD hfr e (.inr (.inr ⟨rfl, rfl, rfl⟩)) fun D' f1 m1 h4 h5 hb1 => KO.sg (a := 1) (hR.good hp) rfl f1 m1 (by omega) (by omega) h4 h5 (hb1.trans hbn)
  split at hp
  · rename_i e
    have hlt := ch_lt e (by decide)
    refine q3 D p0 dep k m s 0 0 hm hBD hfr e (fun z => ?_) (fun z D' f1 m1 h4 h5 hb1 => ?_)
    · rw [if_neg z] at hp; exact hR.bad (by cases hp; rfl)
    · rw [if_pos z] at hp
      have := ch_lt z (by decide)
      exact KO.sg (a := 4) (hR.good hp) rfl f1 m1 (by omega) (by omega) h4 h5 (hb1.trans hbn)
  split at hp
  · rename_i e
    have hlt := ch_lt e (by decide)
    refine q4 D p0 dep k m s 0 0 hm hBD hfr e fun D1 f1 m1 fa fb hb1 => ?_
    refine h.hi (p0 := sk tx n p0 + 1) (k := k + 1) hp (by omega) (by omega) m1 rfl fb (hb1.trans hbn) (BN7 (by omega) (by omega) (by omega) (by omega) (by omega)) (fun z => (hR.bad z).go f1) fun t p1 bb hp D2 q2 f2 m2 e2 l2 n2 v2 hb2 rs2 => ?_
    have fa2 := fa.mfr f2 (Nat.lt_succ_self k)
    have F2 := f1.trans (f2.le (by omega) (Nat.le_refl _) (Nat.le_refl _))
    have B2 : BD n q2 dep k m (s + (pl t).length) := ⟨by omega, by omega, by omega, by omega, by omega⟩
    rcases et_some hp with ⟨hn2, hr2⟩ | ⟨hy2, hp⟩
    · rw [← e2] at hn2
      exact q5 D2 q2 dep k _ _ 0 0 m2 B2 fa2 (fun _ => (hR.bad hr2).go F2) (fun z => absurd z hn2)
    rw [← e2] at hy2 hp
    have s2 := ch_lt hy2 (by decide)
    have t2 := sk_1 (tx := tx) n2
    refine q5 D2 q2 dep k _ _ 0 0 m2 B2 fa2 (fun z => absurd hy2 z) fun _ D3 f3 m3 hb3 => ?_
    exact (hR.good hp).hi (by omega) D3 _ (F2.trans (f3.le (Nat.le_refl _) (Nat.le_refl _) (by omega))) m3 rfl (by omega) (by omega) (by omega) (hb3.trans hb2) (rs2.mfr f3 (by omega))
  split at hp
  · rename_i hl
    have hlt := lt_lt hl
    refine q6 D p0 dep k m s 0 0 hm hBD hfr hl (fun z => ?_) (fun z D' f1 m1 h4 h5 hb1 => ?_)
    · rw [hbn] at z; rw [if_pos z] at hp; exact hR.bad (by cases hp; rfl)
    · rw [hbn] at z hb1; rw [if_neg z] at hp
      exact KO.sg (a := 1) (t := nat (hr tx n (sk tx n p0))) (hR.good hp) rfl f1 m1 (by omega) (by omega) h4 h5 hb1
  · rename_i h84 h70 h95 h91 h40 hl
    exact q7 D p0 dep k m s 0 0 hm hBD hfr hd hl (by simp_all) (hR.bad (by cases hp; rfl))
/-- all rules -/
def RU (H : sS → Prop) (tx : Nat → Int32) (n : Nat) : Prop := (R_e0 H tx n ∧ R_e1 H tx n ∧ R_e2 H tx n ∧ R_e3 H tx n ∧ R_e4 H tx n) ∧ (R_g1 H tx n ∧ R_g2 H tx n ∧ R_g4 H tx n ∧ R_g5 H tx n ∧ R_g6 H tx n ∧ R_g7 H tx n ∧ R_g8 H tx n ∧ R_g10 H tx n ∧ R_g11 H tx n ∧ R_g12 H tx n) ∧ (R_o0 H tx n ∧ R_o1 H tx n ∧ R_o2 H tx n ∧ R_o3 H tx n) ∧ (R_a0 H tx n ∧ R_a1 H tx n ∧ R_a2 H tx n ∧ R_a3 H tx n ∧ R_a4 H tx n ∧ R_a5 H tx n ∧ R_a6 H tx n) ∧ (R_p0 H tx n ∧ R_p1 H tx n ∧ R_p2 H tx n) ∧ R_q1 H tx n ∧ R_q2 H tx n ∧ R_q3 H tx n ∧ R_q4 H tx n ∧ R_q5 H tx n ∧ R_q6 H tx n ∧ R_q7 H tx n
theorem l_expr (hU : RU H tx n) (h : ML H tx n f) (h9 : M9 H tx n f)
    (hp : PR tx n (f + 1) 0 p dep bn acc = some r)
    (hm : ms D tx n p0 dep (k + 1) m s) (hsk : sk tx n p0 = sk tx n p) (hfr : fr D k 0 0 0 0) (hB : BN n p0 dep k m s 0) (hR : MR H tx n D p0 dep k m s 0 r) : H D := by
  have hn := hm.1.2.1
  have hBD := hB.bd hn
  obtain ⟨⟨e0, e1, e2, e3, e4⟩, ⟨g1, g2, g4, g5, g6, g7, g8, g10, g11, g12⟩, _⟩ := hU
  rw [PR_0, ← hsk] at hp
  by_cases hdep : 16 < dep + 1
  · rw [if_pos hdep] at hp
    have hb : KB H D := hR.bad (by cases hp; rfl)
    by_cases c1 : hr tx n (sk tx n p0) = 63
    · exact e1 D p0 dep k m s 5 63 hm hBD hfr (.inl ⟨rfl, rfl⟩) c1 (fun _ => hb) fun z => absurd hdep z
    by_cases c2 : hr tx n (sk tx n p0) = 35
    · exact e1 D p0 dep k m s 8 35 hm hBD hfr (.inr ⟨rfl, rfl⟩) c2 (fun _ => hb) fun z => absurd hdep z
    by_cases c3 : hr tx n (sk tx n p0) = 92
    · exact e2 D p0 dep k m s hm hBD hfr c3 (fun _ => hb) fun z => absurd hdep z
    by_cases c4 : hr tx n (sk tx n p0) = 33
    · exact e3 D p0 dep k m s hm hBD hfr c4 (fun _ => hb) fun z => absurd hdep z
    by_cases c5 : hr tx n (sk tx n p0) = 64
    · exact e4 D p0 dep k m s hm hBD hfr c5 (fun _ => hb) fun z => absurd hdep z
    · exact e0 D p0 dep k m s hm hBD hfr (by simp_all) (fun _ => hb) fun z => absurd hdep z
  rw [if_neg hdep] at hp
  by_cases c1 : hr tx n (sk tx n p0) = 63
  · rw [if_pos c1] at hp
    exact l_if (p := p0) h e1 g5 g6 g7 hp hm rfl hfr hB c1 hdep hR
  rw [if_neg c1] at hp
  by_cases c2 : hr tx n (sk tx n p0) = 35
  · rw [if_pos c2] at hp
    exact l_case (p := p0) h h9 e1 g8 hp hm rfl hfr hB c2 hdep hR
  rw [if_neg c2] at hp
  by_cases c3 : hr tx n (sk tx n p0) = 92
  · rw [if_pos (.inl c3)] at hp
    by_cases hl : lt (hr tx n (sk tx n (sk tx n p0 + 1))) = true
    · rw [if_pos hl, if_pos c3] at hp
      rcases et_some hp with ⟨hd, hr0⟩ | ⟨hd, hp⟩
      · exact e2 D p0 dep k m s hm hBD hfr c3 (fun _ => hR.bad hr0) fun _ _ z => absurd z hd
      · exact l_fun h e2 g1 hp hm hfr hB c3 hdep hl hd hR
    · rw [if_neg hl] at hp
      exact e2 D p0 dep k m s hm hBD hfr c3 (fun _ => hR.bad (by cases hp; rfl)) fun _ z => absurd z hl
  by_cases c4 : hr tx n (sk tx n p0) = 33
  · rw [if_pos (.inr (.inl c4))] at hp
    have c5 : ¬ hr tx n (sk tx n p0) = 64 := fun z => by rw [c4] at z; revert z; decide
    by_cases hl : lt (hr tx n (sk tx n (sk tx n p0 + 1))) = true
    · rw [if_pos hl, if_neg c3] at hp
      rcases et_some hp with ⟨hd, hr0⟩ | ⟨hd, hp⟩
      · exact e3 D p0 dep k m s hm hBD hfr c4 (fun _ => hR.bad hr0) fun _ _ z => absurd z hd
      · rw [if_neg c5] at hp
        exact l_let h e3 g2 g4 hp hm hfr hB c4 hdep hl hd hR
    · rw [if_neg hl] at hp
      exact e3 D p0 dep k m s hm hBD hfr c4 (fun _ => hR.bad (by cases hp; rfl)) fun _ z => absurd z hl
  by_cases c5 : hr tx n (sk tx n p0) = 64
  · rw [if_pos (.inr (.inr c5))] at hp
    by_cases hl : lt (hr tx n (sk tx n (sk tx n p0 + 1))) = true
    · rw [if_pos hl, if_neg c3] at hp
      rcases et_some hp with ⟨hd, hr0⟩ | ⟨hd, hp⟩
      · exact e4 D p0 dep k m s hm hBD hfr c5 (fun _ => hR.bad hr0) fun _ _ z => absurd z hd
      · rw [if_pos c5] at hp
        by_cases hd2 : hr tx n (sk tx n (sk tx n (sk tx n (sk tx n p0 + 1) + 1) + 1)) = 92
        · rw [if_pos hd2] at hp
          exact l_rec h e4 g2 g4 hp hm hfr hB c5 hdep hl hd hd2 hR
        · rw [if_neg hd2] at hp
          exact e4 D p0 dep k m s hm hBD hfr c5 (fun _ => hR.bad (by cases hp; rfl)) fun _ _ _ z => absurd z hd2
    · rw [if_neg hl] at hp
      exact e4 D p0 dep k m s hm hBD hfr c5 (fun _ => hR.bad (by cases hp; rfl)) fun _ z => absurd z hl
  · rw [if_neg (by simp_all)] at hp
    obtain ⟨b1, b2, b3, b4, b5⟩ := hB
    have b3 : k ≤ 7 * dep + p0 := b3
    have s0 := sk_1 (tx := tx) b1
    refine e0 D p0 dep k m s hm hBD hfr (by simp_all) (fun z => absurd z hdep) fun _ D1 f1 m1 fa fb => ?_
    have hp' : (bd (PR tx n f 1 (sk tx n p0) (dep + 1) 0 acc) fun e p1 b => rok e p1 b) = some r := by
      rw [hp]
      match r with
      | none => rfl
      | some (e, p', b) => rfl
    refine h.lo (p0 := sk tx n p0) (k := k + 1) hp' (by omega) m1 rfl fb (BNg (by omega) (by omega) s0.2 (by omega) (by omega) (by omega) (by omega)) (fun z => (hR.bad z).go f1) fun t p1 _ hp D2 q2 f2 m2 e2 l2 n2 w2 v2 rd2 rs2 => ?_
    have fa2 := fa.mfr f2 (Nat.lt_succ_self k)
    have F2 := f1.trans (f2.le (by omega) (Nat.le_refl _) (Nat.le_refl _))
    have B2 : BD n q2 dep k (m + rl t) (s + sl t) := ⟨by omega, by omega, by omega, by omega, by omega⟩
    have L2 := eL_len t none m s 0
    have S2 : (eS t).length = sl t := rfl
    refine g12 D2 q2 dep k _ _ 0 0 m2 B2 fa2 fun D3 f3 m3 => ?_
    exact (hR.good hp).lo (by omega) D3 q2 (F2.trans (f3.le (Nat.le_refl _) (by omega) (by omega))) m3 e2 (by omega) n2 (by omega) (by omega) (rd2.mfr f3 (by omega)) (rs2.mfr f3 (by omega))
/-- the loop follows the reader -/
theorem ML_all (hU : RU H tx n) : ∀ f, ML H tx n f ∧ MO H tx n f ∧ M9 H tx n f := by
  intro f
  induction f with
  | zero =>
    refine ⟨?_, MO_0, M9_0⟩
    intro g p p0 dep bn acc r D k m s _ hp
    cases hp
  | succ f ih =>
    obtain ⟨h, ho, h9⟩ := ih
    have hU' := hU
    obtain ⟨_, ⟨_, _, _, _, _, _, _, g10, g11, _⟩, ⟨o0, o1, o2, o3⟩, ⟨a0, a1, a2, a3, a4, a5, a6⟩, ⟨p0', p1', p2'⟩, q1, q2, q3, q4, q5, q6, q7⟩ := hU'
    refine ⟨?_, MO_s h ho o3, M9_s h h9 g10 g11⟩
    intro g p p0 dep bn acc r D k m s hg hp hm hsk hfr hbn hB hR
    match g, hg with
    | 0, _ => exact l_expr hU h h9 hp hm hsk hfr hB hR
    | 1, _ => rw [PR_t1] at hp; exact l_two (g := 1) h o0 o1 o2 (by omega) (by omega) hp hm hsk hfr hB hR
    | 2, _ => rw [PR_2] at hp; exact l_two (g := 2) h o0 o1 o2 (by omega) (by omega) hp hm hsk hfr hB hR
    | 3, _ => rw [PR_3] at hp; exact l_loop (g := 3) h ho o0 o1 (by omega) (by omega) hp hm hsk hfr hB hR
    | 4, _ => rw [PR_4] at hp; exact l_loop (g := 4) h ho o0 o1 (by omega) (by omega) hp hm hsk hfr hB hR
    | 5, _ => rw [PR_5] at hp; exact l_loop (g := 5) h ho o0 o1 (by omega) (by omega) hp hm hsk hfr hB hR
    | 6, _ => exact l_atom h a0 a1 a2 a3 a4 a5 a6 hp hm hsk hfr hB hR
    | 7, _ => exact l_pat h p0' p1' p2' hp hm hsk hfr (hbn (by omega)) hB hR
    | 8, _ => exact l_part h q1 q2 q3 q4 q5 q6 q7 hp hm hsk hfr (hbn (by omega)) hB hR
    | g + 9, hg => omega
end MY
