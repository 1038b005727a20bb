/-! FunDeskModel, reading: operands, ATOM, PATTERN, PART -/
set_option maxRecDepth 100000
section MX
variable {H : sS → Prop} {tx : Nat → Int32} {n f g p p0 p1 dep k k' m m' s s' st j q i l l' cn : Nat} {bn c v x y : Int32} {acc : tE} {r : Option (tE × Nat × Int32)} {D D' D'' : sS} {F : tE → Nat → Int32 → tR}
theorem sgn_sk (h : sk tx n p0 = sk tx n p) : sgn tx n k p0 = sgn tx n k p := by unfold sgn; rw [h]
theorem oS_sk (h : sk tx n p0 = sk tx n p) : oS tx n g p0 = oS tx n g p := by unfold oS; rw [h, sgn_sk h]
theorem oS_le (hp : p ≤ n) (hg1 : 1 ≤ g) (hg5 : g ≤ 5) : p ≤ (oS tx n g p).2 ∧ (oS tx n g p).2 ≤ n ∧ (¬ (oS tx n g p).1 = 0 → ¬ g = 5 → p < (oS tx n g p).2) := by
  have h1 := sk_1 (tx := tx) hp
  unfold oS
  split
  · split
    · rename_i h; have := ch_lt h (by decide); exact ⟨by omega, by omega, fun _ _ => by dsimp only; omega⟩
    · exact ⟨h1.1, h1.2, fun z => absurd rfl z⟩
  · split
    · rename_i h; split <;> exact ⟨h1.1, h1.2, fun _ z => absurd h z⟩
    · have := sgn_le (tx := tx) (k := g - 2) hp
      exact ⟨this.1, this.2.1, fun z _ => this.2.2 z⟩
/-- the loop of sums, products and functions' arguments; pb: where it began -/
def MO (H : sS → Prop) (tx : Nat → Int32) (n f : Nat) : Prop := ∀ g p p0 pb dep bn acc r D k m s, 3 ≤ g → g ≤ 5 → PR tx n f (g + 10) p dep bn acc = some r → ms D tx n p0 dep (k + 1) (m + rl acc) (s + sl acc) → sk tx n p0 = sk tx n p → pb < p0 → rl acc + 1 + 2 * pb ≤ 2 * p0 → sl acc + pb ≤ p0 → p0 ≤ n → BN n pb dep k m s g → RD (Fdr D) m (eL acc none m s 0) → RS (Gdr D) s (eS acc) → MR H tx n D pb dep k m s g r → OT H tx n D p0 dep k (m + rl acc) (s + sl acc) g
theorem PR_o (hg3 : 3 ≤ g) (hg5 : g ≤ 5) : PR tx n (f + 1) (g + 10) p dep bn acc = (if (oS tx n g p).1 = 0 then rok acc (oS tx n g p).2 0 else bd (PR tx n f (g + 1) (oS tx n g p).2 dep 0 acc) fun r p1 _ => PR tx n f (g + 10) p1 dep 0 (if g = 5 then eApp acc r else eOp (nat (oS tx n g p).1) acc r)) := by
  have h : g = 3 ∨ g = 4 ∨ g = 5 := by omega
  rcases h with rfl | rfl | rfl
  · exact PR_13
  · exact PR_14
  · rw [PR_15]
    show _ = (if (if bg _ = true then ((1 : Int32), _) else (0, _)).1 = 0 then _ else _)
    by_cases hb : bg (hr tx n (sk tx n p)) = true
    · rw [if_pos hb, if_pos hb]
      rw [if_neg (show ¬ (1 : Int32) = 0 by decide)]
      show _ = bd (PR tx n f 6 (if bg _ = true then ((1 : Int32), _) else (0, _)).2 dep 0 acc) _
      rw [if_pos hb]
      rfl
    · rw [if_neg hb, if_neg hb, if_pos rfl]
      show _ = rok acc (if bg _ = true then ((1 : Int32), _) else (0, _)).2 0
      rw [if_neg hb]
theorem oS_i (h1 : 1 ≤ g) (hg5 : g ≤ 5) : i32 (nat (oS tx n g p).1) = (oS tx n g p).1 := by
  unfold oS
  split
  · split <;> rfl
  · split
    · split <;> rfl
    · exact sgn_i
theorem MO_0 : MO H tx n 0 := by
  intro g p p0 pb dep bn acc r D k m s _ _ hp
  cases hp
theorem oS5 (h : ¬ (oS tx n 5 p).1 = 0) : (oS tx n 5 p).1 = 1 := by
  have e : oS tx n 5 p = (if bg (hr tx n (sk tx n p)) = true then (1, sk tx n p) else (0, sk tx n p)) := rfl
  rw [e] at h ⊢
  split
  · rfl
  · rename_i h'; rw [if_neg h'] at h; exact absurd rfl h
theorem MO_s (h : ML H tx n f) (ho : MO H tx n f) (r3 : R_o3 H tx n) : MO H tx n (f + 1) := by
  intro g p p0 pb dep bn acc r D k m s hg3 hg5 hp hm hsk hpb hw hv hpn hB hrd hrs hR
  have hn := hm.1.2.1
  rw [PR_o hg3 hg5] at hp
  have b3 := hB.gg (by omega) (by omega)
  obtain ⟨b1, b2, _, b4, b5⟩ := hB
  have hB : BN n pb dep k m s g := BNg (by omega) (by omega) b1 b2 b3 b4 b5
  have ol := oS_le (tx := tx) (p := p0) hpn (by omega : 1 ≤ g) hg5
  have La := eL_len acc none m s 0
  have Sa : (eS acc).length = sl acc := rfl
  refine ⟨fun h0 D' f1 m1 => ?_, fun h0 D' y f1 m1 fa fb => ?_⟩
  · rw [oS_sk hsk] at h0
    rw [if_pos h0] at hp
    refine (hR.good hp).lo (by omega) D' _ (f1.le (Nat.le_refl _) (by omega) (by omega)) m1 (by rw [oS_sk hsk]) (by omega) ol.2.1 (by omega) (by omega) (hrd.mfr f1 (by omega)) (hrs.mfr f1 (by omega))
  · have h0' := h0
    rw [oS_sk hsk] at h0
    rw [if_neg h0] at hp
    rw [if_neg (by omega : ¬ g = 1)] at fb
    have F1 : MFR k m s D D' := f1.le (Nat.le_refl _) (by omega) (by omega)
    refine h.lo (p0 := (oS tx n g p0).2) (k := k + 1) hp (by omega) m1 (by rw [oS_sk hsk]) fb (BNg (by omega) (by omega) ol.2.1 b2 (by omega) (by omega) (by omega)) (fun z => (hR.bad z).go F1) fun e p2 _ hp D2 q2 f2 m2 e2 l2 n2 w2 v2 rd2 rs2 => ?_
    have fa2 := fa.mfr f2 (Nat.lt_succ_self k)
    have F2 := F1.trans (f2.le (by omega) (by omega) (by omega))
    have B2 : BD n q2 dep k (m + rl acc + rl e) (s + sl acc + sl e) := ⟨by omega, by omega, by omega, by omega, by omega⟩
    refine r3 D2 q2 dep k _ _ g _ y m2 B2 hg3 hg5 fa2 fun D3 f3 m3 en3 => ?_
    have F3 := F2.trans (f3.le (by omega) (by omega) (by omega))
    have L2 := eL_len e none (m + rl acc) (s + sl acc) 0
    have S2 : (eS e).length = sl e := rfl
    have key : ∀ acc', acc' = (if g = 5 then eApp acc e else eOp (nat (oS tx n g p).1) acc e) → rl acc' = rl acc + rl e + 1 ∧ sl acc' = sl acc + sl e ∧ RD (Fdr D3) m (eL acc' none m s 0) ∧ RS (Gdr D3) s (eS acc') := by
      intro acc' ha
      have d1 := ((hrd.mfr f1 (by omega)).mfr f2 (by omega)).mfr f3 (by omega)
      have d2 := rd2.mfr f3 (by omega)
      have s1 := ((hrs.mfr f1 (by omega)).mfr f2 (by omega)).mfr f3 (by omega)
      have s2 := rs2.mfr f3 (by omega)
      split at ha
      · rename_i hg
        subst ha
        refine ⟨rfl, sl_app, ?_, ?_⟩
        · show RD (Fdr D3) m (eL acc none m s 0 ++ (eL e none (m + rl acc) (s + sl acc) 0 ++ [(8, 1, 0, 0)]))
          rw [RD_app, La, RD_app, L2]
          have e3 := en3.2.1
          subst hg
          rw [oS5 h0'] at e3
          exact ⟨d1, d2, ⟨⟨en3.1, e3, en3.2.2, fun z => absurd z (by decide)⟩, trivial⟩⟩
        · show RS (Gdr D3) s (eS acc ++ eS e)
          rw [RS_app]; exact ⟨s1, s2⟩
      · rename_i hg
        subst ha
        refine ⟨rfl, sl_op, ?_, ?_⟩
        · show RD (Fdr D3) m (eL acc none m s 0 ++ (eL e none (m + rl acc) (s + sl acc) 0 ++ [(9, nat (oS tx n g p).1, 0, 0)]))
          rw [RD_app, La, RD_app, L2]
          have e3 := en3.1
          rw [if_neg hg] at e3
          exact ⟨d1, d2, ⟨⟨e3, en3.2.1.trans (by rw [oS_sk hsk]; exact (oS_i (by omega) hg5).symm), en3.2.2, fun z => absurd z (by decide)⟩, trivial⟩⟩
        · show RS (Gdr D3) s (eS acc ++ eS e)
          rw [RS_app]; exact ⟨s1, s2⟩
    obtain ⟨k1, k2, k3, k4⟩ := key _ rfl
    have hR3 : MR H tx n D3 pb dep k m s g r := by
      match r, hR with
      | none, hR => exact KB.go hR F3
      | some (e', p', b'), hR => exact fun D' p1 z => hR D' p1 (F3.trans z)
    have := ho g p2 q2 pb dep 0 _ r D3 k m s hg3 hg5 hp (m3.cast (by rw [k1]; omega) (by rw [k2]; omega)) e2 (by omega) (by rw [k1]; omega) (by rw [k2]; omega) n2 hB k3 k4 hR3
    rw [k1, k2] at this
    have e1 : m + (rl acc + rl e + 1) = m + rl acc + rl e + 1 := by omega
    have e1' : s + (sl acc + sl e) = s + sl acc + sl e := by omega
    rw [e1, e1'] at this
    exact this
/-- SUM, PRODUCT, APPLY -/
theorem l_loop (h : ML H tx n f) (ho : MO H tx n f) (r0 : R_o0 H tx n) (r1 : R_o1 H tx n) (hg3 : 3 ≤ g) (hg5 : g ≤ 5)
    (hp : (bd (PR tx n f (g + 1) p dep 0 acc) fun e p1 _ => PR tx n f (g + 10) p1 dep 0 e) = some r)
    (hm : ms D tx n p0 dep (k + 1) m s) (hsk : sk tx n p0 = sk tx n p) (hfr : fr D k g 0 0 0) (hB : BN n p0 dep k m s g) (hR : MR H tx n D p0 dep k m s g r) : H D := by
  have hn := hm.1.2.1
  have hB' := hB
  have b3 := hB.gg (by omega) (by omega)
  obtain ⟨b1, b2, _, b4, b5⟩ := hB
  refine r0 D p0 dep k m s g 0 0 hm (hB'.bd hn) (by omega) hg5 hfr fun D1 f1 m1 fa fb => ?_
  refine h.lo (p0 := p0) (k := k + 1) hp (by omega) m1 hsk fb (BNg (by omega) (by omega) b1 b2 (by omega) b4 b5) (fun z => (hR.bad z).go f1) fun t p1 _ hp D2 q2 f2 m2 e2 l2 n2 w2 v2 rd2 rs2 => ?_
  have fa2 := fa.mfr f2 (Nat.lt_succ_self k)
  have F2 := f1.trans (f2.le (by omega) (Nat.le_refl _) (Nat.le_refl _))
  have B2 : BD n q2 dep k (m + rl t) (s + sl t) := ⟨by omega, by omega, by omega, by omega, by omega⟩
  refine r1 D2 q2 dep k _ _ g 0 0 m2 B2 (by omega) hg5 fa2 ?_
  refine ho g p1 q2 p0 dep 0 t r D2 k m s hg3 hg5 hp m2 e2 l2 w2 v2 n2 hB' rd2 rs2 ?_
  match r, hR with
  | none, hR => exact KB.go hR F2
  | some (e', p', b'), hR => exact fun D' p1 z => hR D' p1 (F2.trans z)
/-- CONS, COMPARE -/
theorem l_two (h : ML H tx n f) (r0 : R_o0 H tx n) (r1 : R_o1 H tx n) (r2 : R_o2 H tx n) (hg1 : 1 ≤ g) (hg3 : g < 3)
    (hp : (bd (PR tx n f (g + 1) p dep 0 acc) fun e p1 _ => if (oS tx n g p1).1 = 0 then rok e (oS tx n g p1).2 0 else bd (PR tx n f (if g = 1 then 1 else g + 1) (oS tx n g p1).2 dep 0 acc) fun r p2 _ => rok (eOp (nat (oS tx n g p1).1) e r) p2 0) = some r)
    (hm : ms D tx n p0 dep (k + 1) m s) (hsk : sk tx n p0 = sk tx n p) (hfr : fr D k g 0 0 0) (hB : BN n p0 dep k m s g) (hR : MR H tx n D p0 dep k m s g r) : H D := by
  have hn := hm.1.2.1
  have hB' := hB
  have b3 := hB.gg (by omega) (by omega)
  obtain ⟨b1, b2, _, b4, b5⟩ := hB
  refine r0 D p0 dep k m s g 0 0 hm (hB'.bd hn) (by omega) (by omega) hfr fun D1 f1 m1 fa fb => ?_
  refine h.lo (p0 := p0) (k := k + 1) hp (by omega) m1 hsk fb (BNg (by omega) (by omega) b1 b2 (by omega) b4 b5) (fun z => (hR.bad z).go f1) fun t p1 _ hp D2 q2 f2 m2 e2 l2 n2 w2 v2 rd2 rs2 => ?_
  have fa2 := fa.mfr f2 (Nat.lt_succ_self k)
  have F2 := f1.trans (f2.le (by omega) (Nat.le_refl _) (Nat.le_refl _))
  have B2 : BD n q2 dep k (m + rl t) (s + sl t) := ⟨by omega, by omega, by omega, by omega, by omega⟩
  have ol := oS_le (tx := tx) (p := q2) n2 (by omega : 1 ≤ g) (by omega)
  have L2 := eL_len t none m s 0
  have S2 : (eS t).length = sl t := rfl
  refine r1 D2 q2 dep k _ _ g 0 0 m2 B2 (by omega) (by omega) fa2 ⟨fun h0 D3 f3 m3 => ?_, fun h0 D3 y f3 m3 fa3 fb3 => ?_⟩
  · rw [oS_sk e2] at h0
    rw [if_pos h0] at hp
    exact (hR.good hp).lo (by omega) D3 _ (F2.trans (f3.le (Nat.le_refl _) (by omega) (by omega))) m3 (by rw [oS_sk e2]) (by omega) ol.2.1 (by omega) (by omega) (rd2.mfr f3 (by omega)) (rs2.mfr f3 (by omega))
  · have h0' := h0
    have hlt := ol.2.2 h0 (by omega)
    rw [oS_sk e2] at h0
    rw [if_neg h0] at hp
    have F3 := F2.trans (f3.le (Nat.le_refl _) (by omega) (by omega))
    have hg' : 1 ≤ (if g = 1 then 1 else g + 1) ∧ (if g = 1 then 1 else g + 1) ≤ g + 1 ∧ g ≤ (if g = 1 then 1 else g + 1) := by split <;> omega
    refine h.lo (p0 := (oS tx n g q2).2) (k := k + 1) hp (by omega) m3 (by rw [oS_sk e2]) fb3 (BNg (by omega) (by omega) ol.2.1 b2 (by omega) (by omega) (by omega)) (fun z => (hR.bad z).go F3) fun e p3 _ hp D4 q4 f4 m4 e4 l4 n4 w4 v4 rd4 rs4 => ?_
    have fa4 := fa3.mfr f4 (Nat.lt_succ_self k)
    have F4 := F3.trans (f4.le (by omega) (by omega) (by omega))
    have B4 : BD n q4 dep k (m + rl t + rl e) (s + sl t + sl e) := ⟨by omega, by omega, by omega, by omega, by omega⟩
    refine r2 D4 q4 dep k _ _ g _ y m4 B4 hg1 hg3 fa4 fun D5 f5 m5 en5 => ?_
    have L4 := eL_len e none (m + rl t) (s + sl t) 0
    have S4 : (eS e).length = sl e := rfl
    have hrl : ∀ o, rl (eOp o t e) = rl t + rl e + 1 := fun _ => rfl
    refine (hR.good hp).lo (by omega) D5 q4 (F4.trans (f5.le (Nat.le_refl _) (by omega) (by omega))) (m5.cast (by rw [hrl]; omega) (by rw [sl_op]; omega)) e4 (by omega) n4 (by rw [hrl]; omega) (by rw [sl_op]; omega) ?_ ?_
    · show RD (Fdr D5) m (eL t none m s 0 ++ (eL e none (m + rl t) (s + sl t) 0 ++ [(9, nat (oS tx n g p1).1, 0, 0)]))
      rw [RD_app, L2, RD_app, L4]
      exact ⟨((rd2.mfr f3 (by omega)).mfr f4 (by omega)).mfr f5 (by omega), rd4.mfr f5 (by omega), ⟨⟨en5.1, en5.2.1.trans (by rw [oS_sk e2]; exact (oS_i hg1 (by omega)).symm), en5.2.2, fun z => absurd z (by decide)⟩, trivial⟩⟩
    · show RS (Gdr D5) s (eS t ++ eS e)
      rw [RS_app]
      exact ⟨((rs2.mfr f3 (by omega)).mfr f4 (by omega)).mfr f5 (by omega), rs4.mfr f5 (by omega)⟩
theorem PR_t1 : PR tx n (f + 1) 1 p dep bn acc = (bd (PR tx n f 2 p dep 0 acc) fun e p1 _ => if (oS tx n 1 p1).1 = 0 then rok e (oS tx n 1 p1).2 0 else bd (PR tx n f 1 (oS tx n 1 p1).2 dep 0 acc) fun r p2 _ => rok (eOp (nat (oS tx n 1 p1).1) e r) p2 0) := by
  rw [PR_1]
  congr 1
  funext e p1 _
  have e1 : oS tx n 1 p1 = (if hr tx n (sk tx n p1) = 44 then (44, sk tx n p1 + 1) else (0, sk tx n p1)) := rfl
  rw [e1]
  by_cases h : hr tx n (sk tx n p1) = 44
  · rw [if_pos h, if_pos h, if_neg (show ¬ (44 : Int32) = 0 by decide)]; rfl
  · rw [if_neg h, if_neg h, if_pos rfl]
end MX
