/-! FunDeskModel, reading: EXPR -/
set_option maxRecDepth 100000
section MU
variable {H : sS → Prop} {tx : Nat → Int32} {n f g p p0 p1 dep k k' m m' s s' st j q i : Nat} {bn c v x y : Int32} {acc : tE} {r : Option (tE × Nat × Int32)} {D D' D'' : sS}
theorem ms.cast (h : ms D tx n p dep k m s) (hm : m = m') (hs : s = s') : ms D tx n p dep k m' s' := by subst hm; subst hs; exact h
theorem BN0 (h1 : p0 ≤ n) (h2 : dep ≤ 16) (h3 : k ≤ 7 * dep + p0) (h4 : m = 0 ∨ m + 1 ≤ 2 * p0) (h5 : s ≤ p0) : BN n p0 dep k m s 0 := ⟨h1, h2, h3, h4, h5⟩
theorem BNg (hg : 1 ≤ g) (hg6 : g ≤ 6) (h1 : p0 ≤ n) (h2 : dep ≤ 16) (h3 : k + 7 ≤ 7 * dep + p0 + g) (h4 : m = 0 ∨ m + 1 ≤ 2 * p0) (h5 : s ≤ p0) : BN n p0 dep k m s g := by
  refine ⟨h1, h2, ?_, h4, h5⟩
  unfold kk
  rw [if_neg (by omega), if_pos (by omega)]
  omega
theorem BN.gg (h : BN n p0 dep k m s g) (hg : 1 ≤ g) (hg6 : g ≤ 6) : k + 7 ≤ 7 * dep + p0 + g := by
  have := h.2.2.1
  unfold kk at this
  rw [if_neg (by omega), if_pos (by omega)] at this
  omega
theorem BN7 (h1 : p0 ≤ n) (h2 : dep ≤ 16) (h3 : k ≤ 7 * dep + p0) (h4 : m = 0 ∨ m + 1 ≤ 2 * p0) (h5 : s ≤ p0) : BN n p0 dep k m s 7 := ⟨h1, h2, h3, h4, h5⟩
theorem BN8 (h1 : p0 ≤ n) (h2 : dep ≤ 16) (h3 : k + 6 ≤ 7 * dep + p0) (h4 : m = 0 ∨ m + 1 ≤ 2 * p0) (h5 : s ≤ p0) : BN n p0 dep k m s 8 := ⟨h1, h2, h3, h4, h5⟩
theorem sl_if {t y z : tE} : sl (eIf t y z) = sl t + sl y + sl z := by
  show (eS t ++ (eS y ++ eS z)).length = _
  rw [List.length_append, List.length_append]; exact (Nat.add_assoc _ _ _).symm
theorem sl_op {t y : tE} {o : Nat} : sl (eOp o t y) = sl t + sl y := List.length_append
theorem sl_app {t y : tE} : sl (eApp t y) = sl t + sl y := List.length_append
theorem sl_let {t y : tE} {o : Nat} : sl (eLet o t y) = sl t + sl y := List.length_append
theorem sl_rec {t y : tE} {o : Nat} : sl (eRec o t y) = sl t + sl y := List.length_append
theorem sl_case {t y : tE} : sl (eCase t y) = sl t + sl y := List.length_append
theorem sl_cons {q e y : tE} : sl (cCons q e y) = (pl q).length + sl e + sl y := by
  show (pl q ++ (eS e ++ eS y)).length = _
  rw [List.length_append, List.length_append]; exact (Nat.add_assoc _ _ _).symm
theorem i32_lt1 (h : lt (hr tx n p) = true) : i32 (nat (hr tx n p)) = hr tx n p := by
  refine i32_of ?_
  unfold lt at h
  simp only [Bool.and_eq_true, Bool.not_eq_true', decide_eq_false_iff_not] at h
  exact Int32.le_trans (by decide) (Int32.not_lt.mp h.1)
theorem l_if (h : ML H tx n f) (r1 : R_e1 H tx n) (r5 : R_g5 H tx n) (r6 : R_g6 H tx n) (r7 : R_g7 H tx n)
    (hp : (bd (PR tx n f 0 (sk tx n p + 1) (dep + 1) 0 acc) fun t p1 _ => et tx n 58 p1 fun p2 => bd (PR tx n f 0 p2 (dep + 1) 0 acc) fun y p3 _ => et tx n 124 p3 fun p4 => bd (PR tx n f 0 p4 (dep + 1) 0 acc) fun z p5 _ => rok (eIf t y z) p5 0) = some r)
    (hm : ms D tx n p0 dep (k + 1) m s) (hsk : sk tx n p0 = sk tx n p) (hfr : fr D k 0 0 0 0) (hB : BN n p0 dep k m s 0) (hc : hr tx n (sk tx n p0) = 63) (hdep : ¬ 16 < dep + 1) (hR : MR H tx n D p0 dep k m s 0 r) : H D := by
  have hn := hm.1.2.1
  have hB' := hB
  obtain ⟨b1, b2, b3, b4, b5⟩ := hB
  have b3 : k ≤ 7 * dep + p0 := b3
  have s0 := sk_1 (tx := tx) b1
  have s1 := ch_lt hc (by decide)
  refine r1 D p0 dep k m s 5 63 hm (hB'.bd hn) hfr (.inl ⟨rfl, rfl⟩) hc (fun z => absurd z hdep) fun _ D1 f1 m1 fa fb => ?_
  refine h.lo (p0 := sk tx n p0 + 1) (k := k + 1) hp (by omega) m1 (by rw [hsk]) fb (BN0 (by omega) (by omega) (by omega) (by omega) (by omega)) (fun z => (hR.bad z).go f1) fun t p1 _ hp D2 q2 f2 m2 e2 l2 n2 w2 v2 rd2 rs2 => ?_
  have B2 : BD n q2 (dep + 1) k (m + rl t) (s + sl t) := ⟨by omega, by omega, by omega, by omega, by omega⟩
  have fa2 := fa.mfr f2 (Nat.lt_succ_self k)
  have F2 := f1.trans (f2.le (by omega) (Nat.le_refl _) (Nat.le_refl _))
  rcases et_some hp with ⟨hn2, hr2⟩ | ⟨hy2, hp⟩
  · rw [← e2] at hn2
    exact r5 D2 q2 (dep + 1) k _ _ 0 0 m2 B2 fa2 (fun _ => (hR.bad hr2).go F2) (fun z => absurd z hn2)
  rw [← e2] at hy2 hp
  have s2 := ch_lt hy2 (by decide)
  have t2 := sk_1 (tx := tx) n2
  refine r5 D2 q2 (dep + 1) k _ _ 0 0 m2 B2 fa2 (fun z => absurd hy2 z) fun _ D3 f3 m3 fa3 fb3 en3 => ?_
  have F3 := F2.trans (f3.le (Nat.le_refl _) (by omega) (by omega))
  refine h.lo (p0 := sk tx n q2 + 1) (k := k + 1) hp (by omega) m3 rfl fb3 (BN0 (by omega) (by omega) (by omega) (by omega) (by omega)) (fun z => (hR.bad z).go F3) fun y p3 _ hp D4 q4 f4 m4 e4 l4 n4 w4 v4 rd4 rs4 => ?_
  have B4 : BD n q4 (dep + 1) k (m + rl t + 1 + rl y) (s + sl t + sl y) := ⟨by omega, by omega, by omega, by omega, by omega⟩
  have fa4 := fa3.mfr f4 (Nat.lt_succ_self k)
  have F4 := F3.trans (f4.le (by omega) (by omega) (by omega))
  rcases et_some hp with ⟨hn4, hr4⟩ | ⟨hy4, hp⟩
  · rw [← e4] at hn4
    exact r6 D4 q4 (dep + 1) k _ _ (m + rl t) 0 m4 B4 fa4 (by omega) (fun _ => (hR.bad hr4).go F4) (fun z => absurd z hn4)
  rw [← e4] at hy4 hp
  have s4 := ch_lt hy4 (by decide)
  have t4 := sk_1 (tx := tx) n4
  refine r6 D4 q4 (dep + 1) k _ _ (m + rl t) 0 m4 B4 fa4 (by omega) (fun z => absurd hy4 z) fun _ D5 f5 m5 fa5 fb5 en5 => ?_
  have F5 := F4.trans (((f5.of1 (m' := m) (.inl rfl) (by omega) (by omega)).le (k' := k) (m' := m) (s' := s) (Nat.le_refl _) (Nat.le_refl _) (by omega)))
  refine h.lo (p0 := sk tx n q4 + 1) (k := k + 1) hp (by omega) m5 rfl fb5 (BN0 (by omega) (by omega) (by omega) (by omega) (by omega)) (fun z => (hR.bad z).go F5) fun z p5 _ hp D6 q6 f6 m6 e6 l6 n6 w6 v6 rd6 rs6 => ?_
  have B6 : BD n q6 dep k (m + rl t + 1 + rl y + 1 + rl z) (s + sl t + sl y + sl z) := ⟨by omega, by omega, by omega, by omega, by omega⟩
  have fa6 := fa5.mfr f6 (Nat.lt_succ_self k)
  have F6 := F5.trans (f6.le (by omega) (by omega) (by omega))
  refine r7 D6 q6 dep k _ _ (m + rl t + 1 + rl y) 0 m6 B6 fa6 (by omega) fun D7 f7 m7 en7 => ?_
  have F7 := F6.trans (((f7.of1 (m' := m) (.inl rfl) (by omega) (by omega)).le (k' := k) (m' := m) (s' := s) (Nat.le_refl _) (Nat.le_refl _) (by omega)))
  have L2 := eL_len t none m s 0
  have L4 := eL_len y none (m + rl t + 1) (s + sl t) 0
  have L6 := eL_len z none (m + rl t + 1 + rl y + 1) (s + sl t + sl y) 0
  have S2 : (eS t).length = sl t := rfl
  have S4 : (eS y).length = sl y := rfl
  have S6 : (eS z).length = sl z := rfl
  have hrl : rl (eIf t y z) = rl t + rl y + rl z + 3 := rfl
  refine (hR.good hp).lo (by omega) D7 q6 F7 (m7.cast (by rw [hrl]; omega) (by rw [sl_if]; omega)) e6 (by omega) n6 (by rw [hrl]; omega) (by rw [sl_if]; omega) ?_ ?_
  · show RD (Fdr D7) m (eL t none m s 0 ++ ((13, m + rl t + 1 + rl y + 1, 0, 0) :: (eL y none (m + rl t + 1) (s + sl t) 0 ++ ((14, m + rl t + 1 + rl y + 1 + rl z, m + rl t, 0) :: (eL z none (m + rl t + 1 + rl y + 1) (s + sl t + sl y) 0 ++ [(18, 0, m + rl t + 1 + rl y, 0)])))))
    rw [RD_app, L2]
    have g2 := (((((rd2.mfr f3 (by omega)).mfr f4 (by omega)).mf1 f5 (by omega) (by omega)).mfr f6 (by omega)).mf1 f7 (by omega) (by omega))
    have g4 := (((rd4.mf1 f5 (by omega) (by omega)).mfr f6 (by omega)).mf1 f7 (by omega) (by omega))
    have g6 := rd6.mf1 f7 (by omega) (by omega)
    refine ⟨g2, ⟨?_, ?_⟩⟩
    · have a4 := en3.mfr f4 (by omega)
      have a5 : gA D5 517 (m + rl t) = i32 (m + rl t + 1 + rl y + 1) := (f5.2.1 517 _ (by omega)).trans gA_eq
      have a6 : gA D6 517 (m + rl t) = i32 (m + rl t + 1 + rl y + 1) := (f6.2.1 517 _ (by omega)).trans a5
      refine ⟨?_, ?_, ?_, fun z => absurd z (by decide)⟩
      · exact (f7.2.1 516 _ (by omega)).trans ((gA_ne (by omega)).trans ((f6.2.1 516 _ (by omega)).trans ((f5.2.1 516 _ (by omega)).trans ((gA_ne (by omega)).trans a4.1))))
      · exact (f7.2.1 517 _ (by omega)).trans ((gA_ne (by omega)).trans a6)
      · exact (f7.2.1 518 _ (by omega)).trans ((gA_ne (by omega)).trans ((f6.2.1 518 _ (by omega)).trans ((f5.2.1 518 _ (by omega)).trans ((gA_ne (by omega)).trans a4.2.2))))
    · rw [RD_app, L4]
      refine ⟨g4, ⟨?_, ?_⟩⟩
      · have a6 := en5.mfr f6 (by omega)
        refine ⟨?_, ?_, ?_, fun z => absurd z (by decide)⟩
        · exact (f7.2.1 516 _ (by omega)).trans ((gA_ne (by omega)).trans a6.1)
        · exact (f7.2.1 517 _ (by omega)).trans gA_eq
        · exact (f7.2.1 518 _ (by omega)).trans ((gA_ne (by omega)).trans a6.2.2)
      · rw [RD_app, L6]
        exact ⟨g6, ⟨⟨en7.1, en7.2.1, en7.2.2, fun z => absurd z (by decide)⟩, trivial⟩⟩
  · show RS (Gdr D7) s (eS t ++ (eS y ++ eS z))
    rw [RS_app, RS_app]
    refine ⟨((((rs2.mfr f3 (by omega)).mfr f4 (by omega)).mf1 f5 (by omega) (by omega)).mfr f6 (by omega)).mf1 f7 (by omega) (by omega), ((rs4.mf1 f5 (by omega) (by omega)).mfr f6 (by omega)).mf1 f7 (by omega) (by omega), rs6.mf1 f7 (by omega) (by omega)⟩
end MU
