/-! FunDeskModel, reading: EXPR, functions and names -/
set_option maxRecDepth 100000
section MV
variable {H : sS → Prop} {tx : Nat → Int32} {n f g p p0 p1 dep k k' m m' s s' st j q i : Nat} {bn c v x y : Int32} {acc : tE} {r : Option (tE × Nat × Int32)} {D D' D'' : sS}
theorem l_fun (h : ML H tx n f) (r1 : R_e2 H tx n) (r5 : R_g1 H tx n)
    (hp : (bd (PR tx n f 0 (sk tx n (sk tx n (sk tx n p0 + 1) + 1) + 1) (dep + 1) 0 acc) fun b p3 _ => rok (eFun (nat (hr tx n (sk tx n (sk tx n p0 + 1)))) b) p3 0) = some r)
    (hm : ms D tx n p0 dep (k + 1) m s) (hfr : fr D k 0 0 0 0) (hB : BN n p0 dep k m s 0) (hc : hr tx n (sk tx n p0) = 92) (hdep : ¬ 16 < dep + 1) (hl : lt (hr tx n (sk tx n (sk tx n p0 + 1))) = true) (hd : hr tx n (sk tx n (sk tx n (sk tx n p0 + 1) + 1)) = 46) (hR : MR H tx n D p0 dep k m s 0 r) : H D := by
  have hn := hm.1.2.1
  have hB' := hB
  obtain ⟨b1, b2, b3, b4, b5⟩ := hB
  have b3 : k ≤ 7 * dep + p0 := b3
  have s0 := sk_1 (tx := tx) b1
  have s1 := ch_lt hc (by decide)
  have t1 := sk_1 (tx := tx) (n := n) (p := sk tx n p0 + 1) (by omega)
  have t2 := lt_lt hl
  have t3 := sk_1 (tx := tx) (n := n) (p := sk tx n (sk tx n p0 + 1) + 1) (by omega)
  have t4 := ch_lt hd (by decide)
  refine r1 D p0 dep k m s hm (hB'.bd hn) hfr hc (fun z => absurd ⟨hdep, hl, hd⟩ z) fun _ _ _ D1 f1 m1 fa fb e1 => ?_
  refine h.lo (p0 := sk tx n (sk tx n (sk tx n p0 + 1) + 1) + 1) (k := k + 1) hp (by omega) m1 rfl fb (BN0 (by omega) (by omega) (by omega) (by omega) (by omega)) (fun z => (hR.bad z).go f1) fun t p1 _ hp D2 q2 f2 m2 e2 l2 n2 w2 v2 rd2 rs2 => ?_
  have B2 : BD n q2 dep k (m + 1 + rl t) (s + sl t) := ⟨by omega, by omega, by omega, by omega, by omega⟩
  have fa2 := fa.mfr f2 (Nat.lt_succ_self k)
  have F2 := f1.trans (f2.le (by omega) (by omega) (Nat.le_refl _))
  refine r5 D2 q2 dep k _ _ m 0 m2 B2 fa2 (by omega) fun D3 f3 m3 en3 => ?_
  have F3 := F2.trans ((f3.of1 (m' := m) (.inl rfl) (by omega) (by omega)).le (k' := k) (m' := m) (s' := s) (Nat.le_refl _) (Nat.le_refl _) (by omega))
  have L2 := eL_len t none (m + 1) s 0
  have hrl : rl (eFun (nat (hr tx n (sk tx n (sk tx n p0 + 1)))) t) = rl t + 2 := rfl
  have hsl : sl (eFun (nat (hr tx n (sk tx n (sk tx n p0 + 1)))) t) = sl t := rfl
  have S2 : (eS t).length = sl t := rfl
  have en2 := e1.mfr f2 (Nat.lt_succ_self m)
  refine (hR.good hp).lo (by omega) D3 q2 F3 (m3.cast (by rw [hrl]; omega) rfl) e2 (by omega) n2 (by rw [hrl]; omega) (by rw [hsl]; omega) ?_ (rs2.mf1 f3 (by omega) (by omega))
  show RD (Fdr D3) m ((6, m + 1 + rl t + 1, nat (hr tx n (sk tx n (sk tx n p0 + 1))), 0) :: (eL t none (m + 1) s 0 ++ [(7, 0, m, 0)]))
  refine ⟨⟨?_, ?_, ?_, fun z => absurd z (by decide)⟩, ?_⟩
  · exact (f3.2.1 516 _ (by omega)).trans ((gA_ne (by omega)).trans en2.1)
  · exact (f3.2.1 517 _ (by omega)).trans gA_eq
  · exact (f3.2.1 518 _ (by omega)).trans ((gA_ne (by omega)).trans (en2.2.2.trans (i32_lt1 hl).symm))
  · rw [RD_app, L2]
    exact ⟨rd2.mf1 f3 (by omega) (by omega), ⟨⟨en3.1, en3.2.1, en3.2.2, fun z => absurd z (by decide)⟩, trivial⟩⟩
theorem l_let (h : ML H tx n f) (r1 : R_e3 H tx n) (r2 : R_g2 H tx n) (r4 : R_g4 H tx n)
    (hp : (bd (PR tx n f 0 (sk tx n (sk tx n (sk tx n p0 + 1) + 1) + 1) (dep + 1) 0 acc) fun w p3 _ => et tx n 59 p3 fun p4 => bd (PR tx n f 0 p4 (dep + 1) 0 acc) fun i p5 _ => rok (eLet (nat (hr tx n (sk tx n (sk tx n p0 + 1)))) w i) p5 0) = some r)
    (hm : ms D tx n p0 dep (k + 1) m s) (hfr : fr D k 0 0 0 0) (hB : BN n p0 dep k m s 0) (hc : hr tx n (sk tx n p0) = 33) (hdep : ¬ 16 < dep + 1) (hl : lt (hr tx n (sk tx n (sk tx n p0 + 1))) = true) (hd : hr tx n (sk tx n (sk tx n (sk tx n p0 + 1) + 1)) = 61) (hR : MR H tx n D p0 dep k m s 0 r) : H D := by
  have hn := hm.1.2.1
  have hB' := hB
  obtain ⟨b1, b2, b3, b4, b5⟩ := hB
  have b3 : k ≤ 7 * dep + p0 := b3
  have s0 := sk_1 (tx := tx) b1
  have s1 := ch_lt hc (by decide)
  have t1 := sk_1 (tx := tx) (n := n) (p := sk tx n p0 + 1) (by omega)
  have t2 := lt_lt hl
  have t3 := sk_1 (tx := tx) (n := n) (p := sk tx n (sk tx n p0 + 1) + 1) (by omega)
  have t4 := ch_lt hd (by decide)
  refine r1 D p0 dep k m s hm (hB'.bd hn) hfr hc (fun z => absurd ⟨hdep, hl, hd⟩ z) fun _ _ _ D1 f1 m1 fa fb => ?_
  refine h.lo (p0 := sk tx n (sk tx n (sk tx n p0 + 1) + 1) + 1) (k := k + 1) hp (by omega) m1 rfl fb (BN0 (by omega) (by omega) (by omega) (by omega) (by omega)) (fun z => (hR.bad z).go f1) fun t p1 _ hp D2 q2 f2 m2 e2 l2 n2 w2 v2 rd2 rs2 => ?_
  have B2 : BD n q2 (dep + 1) k (m + rl t) (s + sl t) := ⟨by omega, by omega, by omega, by omega, by omega⟩
  have fa2 := fa.mfr f2 (Nat.lt_succ_self k)
  have F2 := f1.trans (f2.le (by omega) (by omega) (Nat.le_refl _))
  rcases et_some hp with ⟨hn2, hr2⟩ | ⟨hy2, hp⟩
  · rw [← e2] at hn2
    exact r2 D2 q2 (dep + 1) k _ _ 2 _ 0 m2 B2 (.inl rfl) fa2 (fun _ => (hR.bad hr2).go F2) (fun z => absurd z hn2)
  rw [← e2] at hy2 hp
  have s2 := ch_lt hy2 (by decide)
  have u2 := sk_1 (tx := tx) n2
  refine r2 D2 q2 (dep + 1) k _ _ 2 _ 0 m2 B2 (.inl rfl) fa2 (fun z => absurd hy2 z) fun _ D3 f3 m3 fa3 fb3 en3 => ?_
  have F3 := F2.trans (f3.le (Nat.le_refl _) (by omega) (by omega))
  refine h.lo (p0 := sk tx n q2 + 1) (k := k + 1) hp (by omega) m3 rfl fb3 (BN0 (by omega) (by omega) (by omega) (by omega) (by omega)) (fun z => (hR.bad z).go F3) fun y p3 _ hp D4 q4 f4 m4 e4 l4 n4 w4 v4 rd4 rs4 => ?_
  have B4 : BD n q4 dep k (m + rl t + 1 + rl y) (s + sl t + sl y) := ⟨by omega, by omega, by omega, by omega, by omega⟩
  have fa4 := fa3.mfr f4 (Nat.lt_succ_self k)
  have F4 := F3.trans (f4.le (by omega) (by omega) (by omega))
  refine r4 D4 q4 dep k _ _ _ 0 m4 B4 fa4 fun D5 f5 m5 en5 => ?_
  have F5 := F4.trans (f5.le (Nat.le_refl _) (by omega) (by omega))
  have L2 := eL_len t none m s 0
  have L4 := eL_len y none (m + rl t + 1) (s + sl t) 0
  have S2 : (eS t).length = sl t := rfl
  have S4 : (eS y).length = sl y := rfl
  have hrl : ∀ c, rl (eLet c t y) = rl t + rl y + 2 := fun _ => rfl
  refine (hR.good hp).lo (by omega) D5 q4 F5 (m5.cast (by rw [hrl]; omega) (by rw [sl_let]; omega)) e4 (by omega) n4 (by rw [hrl]; omega) (by rw [sl_let]; omega) ?_ ?_
  · show RD (Fdr D5) m (eL t none m s 0 ++ ((10, 0, nat (hr tx n (sk tx n (sk tx n p0 + 1))), 0) :: (eL y none (m + rl t + 1) (s + sl t) 0 ++ [(12, 1, nat (hr tx n (sk tx n (sk tx n p0 + 1))), 0)])))
    rw [RD_app, L2]
    have a5 := (en3.mfr f4 (Nat.lt_succ_self _)).mfr f5 (by omega)
    refine ⟨((rd2.mfr f3 (by omega)).mfr f4 (by omega)).mfr f5 (by omega), ⟨⟨a5.1, a5.2.1, a5.2.2.trans (i32_lt1 hl).symm, fun z => absurd z (by decide)⟩, ?_⟩⟩
    rw [RD_app, L4]
    exact ⟨rd4.mfr f5 (by omega), ⟨⟨en5.1, en5.2.1, en5.2.2.trans (i32_lt1 hl).symm, fun z => absurd z (by decide)⟩, trivial⟩⟩
  · show RS (Gdr D5) s (eS t ++ eS y)
    rw [RS_app]
    exact ⟨((rs2.mfr f3 (by omega)).mfr f4 (by omega)).mfr f5 (by omega), rs4.mfr f5 (by omega)⟩
theorem l_rec (h : ML H tx n f) (r1 : R_e4 H tx n) (r2 : R_g2 H tx n) (r4 : R_g4 H tx n)
    (hp : (bd (PR tx n f 0 (sk tx n (sk tx n (sk tx n (sk tx n p0 + 1) + 1) + 1)) (dep + 1) 0 acc) fun w p3 _ => et tx n 59 p3 fun p4 => bd (PR tx n f 0 p4 (dep + 1) 0 acc) fun i p5 _ => rok (eRec (nat (hr tx n (sk tx n (sk tx n p0 + 1)))) w i) p5 0) = some r)
    (hm : ms D tx n p0 dep (k + 1) m s) (hfr : fr D k 0 0 0 0) (hB : BN n p0 dep k m s 0) (hc : hr tx n (sk tx n p0) = 64) (hdep : ¬ 16 < dep + 1) (hl : lt (hr tx n (sk tx n (sk tx n p0 + 1))) = true) (hd : hr tx n (sk tx n (sk tx n (sk tx n p0 + 1) + 1)) = 61) (hd2 : hr tx n (sk tx n (sk tx n (sk tx n (sk tx n p0 + 1) + 1) + 1)) = 92) (hR : MR H tx n D p0 dep k m s 0 r) : H D := by
  have hn := hm.1.2.1
  have hB' := hB
  obtain ⟨b1, b2, b3, b4, b5⟩ := hB
  have b3 : k ≤ 7 * dep + p0 := b3
  have s0 := sk_1 (tx := tx) b1
  have s1 := ch_lt hc (by decide)
  have t1 := sk_1 (tx := tx) (n := n) (p := sk tx n p0 + 1) (by omega)
  have t2 := lt_lt hl
  have t3 := sk_1 (tx := tx) (n := n) (p := sk tx n (sk tx n p0 + 1) + 1) (by omega)
  have t4 := ch_lt hd (by decide)
  have t5 := sk_1 (tx := tx) (n := n) (p := sk tx n (sk tx n (sk tx n p0 + 1) + 1) + 1) (by omega)
  refine r1 D p0 dep k m s hm (hB'.bd hn) hfr hc (fun z => absurd ⟨hdep, hl, hd, hd2⟩ z) fun _ _ _ _ D1 f1 m1 fa fb e1 => ?_
  refine h.lo (p0 := sk tx n (sk tx n (sk tx n (sk tx n p0 + 1) + 1) + 1)) (k := k + 1) hp (by omega) m1 rfl fb (BN0 (by omega) (by omega) (by omega) (by omega) (by omega)) (fun z => (hR.bad z).go f1) fun t p1 _ hp D2 q2 f2 m2 e2 l2 n2 w2 v2 rd2 rs2 => ?_
  have B2 : BD n q2 (dep + 1) k (m + 1 + rl t) (s + sl t) := ⟨by omega, by omega, by omega, by omega, by omega⟩
  have fa2 := fa.mfr f2 (Nat.lt_succ_self k)
  have F2 := f1.trans (f2.le (by omega) (by omega) (Nat.le_refl _))
  rcases et_some hp with ⟨hn2, hr2⟩ | ⟨hy2, hp⟩
  · rw [← e2] at hn2
    exact r2 D2 q2 (dep + 1) k _ _ 3 _ 0 m2 B2 (.inr rfl) fa2 (fun _ => (hR.bad hr2).go F2) (fun z => absurd z hn2)
  rw [← e2] at hy2 hp
  have s2 := ch_lt hy2 (by decide)
  have u2 := sk_1 (tx := tx) n2
  refine r2 D2 q2 (dep + 1) k _ _ 3 _ 0 m2 B2 (.inr rfl) fa2 (fun z => absurd hy2 z) fun _ D3 f3 m3 fa3 fb3 en3 => ?_
  have F3 := F2.trans (f3.le (Nat.le_refl _) (by omega) (by omega))
  refine h.lo (p0 := sk tx n q2 + 1) (k := k + 1) hp (by omega) m3 rfl fb3 (BN0 (by omega) (by omega) (by omega) (by omega) (by omega)) (fun z => (hR.bad z).go F3) fun y p3 _ hp D4 q4 f4 m4 e4 l4 n4 w4 v4 rd4 rs4 => ?_
  have B4 : BD n q4 dep k (m + 1 + rl t + 1 + rl y) (s + sl t + sl y) := ⟨by omega, by omega, by omega, by omega, by omega⟩
  have fa4 := fa3.mfr f4 (Nat.lt_succ_self k)
  have F4 := F3.trans (f4.le (by omega) (by omega) (by omega))
  refine r4 D4 q4 dep k _ _ _ 0 m4 B4 fa4 fun D5 f5 m5 en5 => ?_
  have F5 := F4.trans (f5.le (Nat.le_refl _) (by omega) (by omega))
  have L2 := eL_len t none (m + 1) s 0
  have L4 := eL_len y none (m + 1 + rl t + 1) (s + sl t) 0
  have S2 : (eS t).length = sl t := rfl
  have S4 : (eS y).length = sl y := rfl
  have hrl : ∀ c, rl (eRec c t y) = rl t + rl y + 3 := fun _ => rfl
  refine (hR.good hp).lo (by omega) D5 q4 F5 (m5.cast (by rw [hrl]; omega) (by rw [sl_rec]; omega)) e4 (by omega) n4 (by rw [hrl]; omega) (by rw [sl_rec]; omega) ?_ ?_
  · show RD (Fdr D5) m ((19, 0, nat (hr tx n (sk tx n (sk tx n p0 + 1))), 0) :: (eL t none (m + 1) s 0 ++ ((11, 0, nat (hr tx n (sk tx n (sk tx n p0 + 1))), 0) :: (eL y none (m + 1 + rl t + 1) (s + sl t) 0 ++ [(12, 1, nat (hr tx n (sk tx n (sk tx n p0 + 1))), 0)]))))
    have a1 := ((((e1.mfr f2 (by omega)).mfr f3 (by omega)).mfr f4 (by omega)).mfr f5 (by omega))
    refine ⟨⟨a1.1, a1.2.1, a1.2.2.trans (i32_lt1 hl).symm, fun z => absurd z (by decide)⟩, ?_⟩
    rw [RD_app, L2]
    have a5 := (en3.mfr f4 (Nat.lt_succ_self _)).mfr f5 (by omega)
    refine ⟨((rd2.mfr f3 (by omega)).mfr f4 (by omega)).mfr f5 (by omega), ⟨⟨a5.1, a5.2.1, a5.2.2.trans (i32_lt1 hl).symm, fun z => absurd z (by decide)⟩, ?_⟩⟩
    rw [RD_app, L4]
    exact ⟨rd4.mfr f5 (by omega), ⟨⟨en5.1, en5.2.1, en5.2.2.trans (i32_lt1 hl).symm, fun z => absurd z (by decide)⟩, trivial⟩⟩
  · show RS (Gdr D5) s (eS t ++ eS y)
    rw [RS_app]
    exact ⟨((rs2.mfr f3 (by omega)).mfr f4 (by omega)).mfr f5 (by omega), rs4.mfr f5 (by omega)⟩
end MV
