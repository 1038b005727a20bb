/-! FunDeskModel: the names of a whole row -/
set_option maxRecDepth 100000
def NL (d : Nat) (Q : am_O → am_H → Prop) (e : tE) : Prop := ∀ (G : List Nat) (m s M E0 : Nat) (D : sS), RD (Fdr D) m (eL e none m s E0) → RS (Gdr D) s (eS e) → NR D G → (∀ x, x ∈ G → x < 128) → gI D 542 = i32 G.length → G.length + bz e < 63 → gI D 519 = i32 M → m + rl e ≤ M → M ≤ 122 → s + sl e ≤ 80 → (nm e G = true → ∀ D', NFR m (m + rl e) D D' → RD (Fdr D') m (eL e (some G) m s E0) → NR D' G → gI D' 542 = i32 G.length → HN d Q D' (m + rl e)) → (nm e G = false → ∀ D', NFR m (m + rl e) D D' → Q (.inl (some (.int 0))) (toH D')) → HN d Q D m
section NF
variable {d : Nat} {D D' D'' : sS} {Q : am_O → am_H → Prop} {p s m L a c M lo hi lo' hi' k j q i o v' : Nat} {v x t : Int32} {G : List Nat} {X Y : List (Nat × Nat × Nat × Nat)} {Z : List (Nat × Nat)} {e f g : tE}
theorem RD.nf (h : RD (Fdr D) i X) (hf : NFR lo hi D D') (hc : i + X.length ≤ lo ∨ hi ≤ i ∨ hi ≤ lo) : RD (Fdr D') i X := by
  refine h.congr fun q j h1 h2 => ?_
  unfold Fdr
  refine hf.2.1 _ j ?_
  have e : ∀ q : Nat, (if q = 0 then 516 else if q = 1 then 517 else if q = 2 then 518 else 537) < 524 ∨ (if q = 0 then 516 else if q = 1 then 517 else if q = 2 then 518 else 537) = 537 := by intro q; split <;> (try split) <;> (try split) <;> omega
  have := e q
  omega
theorem RS.nf (h : RS (Gdr D) i Z) (hf : NFR lo hi D D') : RS (Gdr D') i Z := by
  refine h.congr fun q j h1 h2 => ?_
  unfold Gdr
  refine hf.2.1 _ j ?_
  split <;> omega
theorem NFR.to (h : NFR lo hi D D') (h1 : lo' ≤ lo) (h2 : hi ≤ hi') : NFR lo' hi' D D' := h.le h1 h2
theorem eS_len : (eS e).length = sl e := rfl
theorem x_plain (hd : 5 ≤ d) (hE : EB (.pow (.natCast v') k) false) : NL d Q (.pow (.natCast v') k) := by
  intro G m s M E0 D hr hs hN hG hL hL2 hM hmM hM2 hs2 h1 h0
  have hmM : m + 1 ≤ M := hmM
  have hL2 : G.length + 0 < 63 := hL2
  obtain ⟨⟨r1, r2, r3, r4⟩, _⟩ := hr
  have hk : k ≤ 4 := hE.1
  refine n_oth hM (by omega) hM2 r1 (by omega) (by omega) hL (by omega) hd ?_
  exact h1 rfl D NFR.refl ⟨⟨r1, r2, r3, r4⟩, trivial⟩ hN hL
theorem x_name (hd : 5 ≤ d) (hE : lc c) : NL d Q (.var c) := by
  intro G m s M E0 D hr hs hN hG hL hL2 hM hmM hM2 hs2 h1 h0
  have hmM : m + 1 ≤ M := hmM
  have hL2 : G.length + 0 < 63 := hL2
  obtain ⟨⟨r1, r2, r3, r4⟩, _⟩ := hr
  have hc : c < 128 := Nat.lt_trans hE.2 (by decide)
  have hrl : rl (.var c) = 1 := rfl
  refine n_nam hM (by omega) hM2 r1 r3 hc hN hG hL (by omega) hd (fun z => ?_) (fun z => ?_)
  · refine h1 (List.contains_iff_mem.mpr z) _ (NFR.refl.dr (by omega) (by rw [hrl]; omega)) ⟨⟨?_, ?_, ?_, fun z => absurd z (by decide)⟩, trivial⟩ (hN.congr fun j hj => gA_ne (by omega)) hL
    · show gA (sA D 517 m _) 516 m = _
      exact (gA_ne (by omega)).trans r1
    · exact gA_eq
    · show gA (sA D 517 m _) 518 m = _
      exact (gA_ne (by omega)).trans r3
  · refine h0 ?_ D NFR.refl
    show G.contains c = false
    exact Bool.eq_false_iff.mpr fun y => z (List.contains_iff_mem.mp y)
theorem x_app (hd : 5 ≤ d) (ih1 : NL d Q f) (ih2 : NL d Q g) : NL d Q (.mul f g) := by
  intro G m s M E0 D hr hs hN hG hL hL2 hM hmM hM2 hs2 h1 h0
  have hrl : rl (.mul f g) = rl f + rl g + 1 := rfl
  have hsl : sl (.mul f g) = sl f + sl g := sl_app
  have hbz : bz (.mul f g) = bz f + bz g := rfl
  rw [hrl] at hmM h1 h0
  rw [hsl] at hs2
  rw [hbz] at hL2
  have hr : RD (Fdr D) m (eL f none m s 0 ++ (eL g none (m + rl f) (s + sl f) 0 ++ [(8, 1, 0, 0)])) := hr
  have hs : RS (Gdr D) s (eS f ++ eS g) := hs
  rw [RD_app, RD_app, eL_len, eL_len] at hr
  rw [RS_app, eS_len] at hs
  obtain ⟨r1, r2, ⟨r3, r4, r5, r6⟩, _⟩ := hr
  refine ih1 G m s M 0 D r1 hs.1 hN hG hL (by omega) hM (by omega) hM2 (by omega) (fun t1 D1 F1 R1 N1 L1 => ?_) (fun t1 D1 F1 => ?_)
  · refine ih2 G (m + rl f) (s + sl f) M 0 D1 (r2.nf F1 (by omega)) (hs.2.nf F1) N1 hG L1 (by omega) ((F1.1 519 (by decide)).trans hM) (by omega) hM2 (by omega) (fun t2 D2 F2 R2 N2 L2 => ?_) (fun t2 D2 F2 => ?_)
    · have F12 : NFR m (m + (rl f + rl g + 1)) D D2 := (F1.to (Nat.le_refl _) (by omega)).trans (F2.to (by omega) (by omega))
      have q3 : gA D2 516 (m + rl f + rl g) = i32 8 := (F12.2.1 516 _ (by omega)).trans r3
      have q4 : gA D2 517 (m + rl f + rl g) = i32 1 := (F2.2.1 517 _ (by omega)).trans ((F1.2.1 517 _ (by omega)).trans r4)
      have q5 : gA D2 518 (m + rl f + rl g) = i32 0 := (F12.2.1 518 _ (by omega)).trans r5
      refine n_oth (p := m + rl f + rl g) ((F12.1 519 (by decide)).trans hM) (by omega) hM2 q3 (by omega) (by omega) L2 (by omega) hd ?_
      have e1 : m + rl f + rl g + 1 = m + (rl f + rl g + 1) := by omega
      rw [e1]
      refine h1 (by unfold nm; rw [t1, t2]; rfl) D2 F12 ?_ N2 L2
      show RD (Fdr D2) m (eL f (some G) m s 0 ++ (eL g (some G) (m + rl f) (s + sl f) 0 ++ [(8, 1, 0, 0)]))
      rw [RD_app, RD_app, eL_len, eL_len]
      exact ⟨R1.nf F2 (by rw [eL_len]; omega), R2, ⟨q3, q4, q5, fun z => absurd z (by decide)⟩, trivial⟩
    · exact h0 (by unfold nm; rw [t1, t2]; rfl) D2 ((F1.to (Nat.le_refl _) (by omega)).trans (F2.to (by omega) (by omega)))
  · exact h0 (by unfold nm; rw [t1]; rfl) D1 (F1.to (Nat.le_refl _) (by omega))
theorem x_op (hd : 5 ≤ d) (ih1 : NL d Q f) (ih2 : NL d Q g) : NL d Q (.pow (.add f g) o) := by
  intro G m s M E0 D hr hs hN hG hL hL2 hM hmM hM2 hs2 h1 h0
  have hrl : rl (.pow (.add f g) o) = rl f + rl g + 1 := rfl
  have hsl : sl (.pow (.add f g) o) = sl f + sl g := sl_op
  have hbz : bz (.pow (.add f g) o) = bz f + bz g := rfl
  rw [hrl] at hmM h1 h0
  rw [hsl] at hs2
  rw [hbz] at hL2
  have hr : RD (Fdr D) m (eL f none m s 0 ++ (eL g none (m + rl f) (s + sl f) 0 ++ [(9, o, 0, 0)])) := hr
  have hs : RS (Gdr D) s (eS f ++ eS g) := hs
  rw [RD_app, RD_app, eL_len, eL_len] at hr
  rw [RS_app, eS_len] at hs
  obtain ⟨r1, r2, ⟨r3, r4, r5, r6⟩, _⟩ := hr
  refine ih1 G m s M 0 D r1 hs.1 hN hG hL (by omega) hM (by omega) hM2 (by omega) (fun t1 D1 F1 R1 N1 L1 => ?_) (fun t1 D1 F1 => ?_)
  · refine ih2 G (m + rl f) (s + sl f) M 0 D1 (r2.nf F1 (by omega)) (hs.2.nf F1) N1 hG L1 (by omega) ((F1.1 519 (by decide)).trans hM) (by omega) hM2 (by omega) (fun t2 D2 F2 R2 N2 L2 => ?_) (fun t2 D2 F2 => ?_)
    · have F12 : NFR m (m + (rl f + rl g + 1)) D D2 := (F1.to (Nat.le_refl _) (by omega)).trans (F2.to (by omega) (by omega))
      have q3 : gA D2 516 (m + rl f + rl g) = i32 9 := (F12.2.1 516 _ (by omega)).trans r3
      have q4 : gA D2 517 (m + rl f + rl g) = i32 o := (F2.2.1 517 _ (by omega)).trans ((F1.2.1 517 _ (by omega)).trans r4)
      have q5 : gA D2 518 (m + rl f + rl g) = i32 0 := (F12.2.1 518 _ (by omega)).trans r5
      refine n_oth (p := m + rl f + rl g) ((F12.1 519 (by decide)).trans hM) (by omega) hM2 q3 (by omega) (by omega) L2 (by omega) hd ?_
      have e1 : m + rl f + rl g + 1 = m + (rl f + rl g + 1) := by omega
      rw [e1]
      refine h1 (by unfold nm; rw [t1, t2]; rfl) D2 F12 ?_ N2 L2
      show RD (Fdr D2) m (eL f (some G) m s 0 ++ (eL g (some G) (m + rl f) (s + sl f) 0 ++ [(9, o, 0, 0)]))
      rw [RD_app, RD_app, eL_len, eL_len]
      exact ⟨R1.nf F2 (by rw [eL_len]; omega), R2, ⟨q3, q4, q5, fun z => absurd z (by decide)⟩, trivial⟩
    · exact h0 (by unfold nm; rw [t1, t2]; rfl) D2 ((F1.to (Nat.le_refl _) (by omega)).trans (F2.to (by omega) (by omega)))
  · exact h0 (by unfold nm; rw [t1]; rfl) D1 (F1.to (Nat.le_refl _) (by omega))
theorem x_neg (hd : 5 ≤ d) (ih1 : NL d Q f) : NL d Q (.neg f) := by
  intro G m s M E0 D hr hs hN hG hL hL2 hM hmM hM2 hs2 h1 h0
  have hrl : rl (.neg f) = rl f + 1 := rfl
  have hsl : sl (.neg f) = sl f := rfl
  have hbz : bz (.neg f) = bz f := rfl
  rw [hrl] at hmM h1 h0
  rw [hsl] at hs2
  rw [hbz] at hL2
  have hr : RD (Fdr D) m (eL f none m s 0 ++ [(9, 126, 0, 0)]) := hr
  have hs : RS (Gdr D) s (eS f) := hs
  rw [RD_app, eL_len] at hr
  obtain ⟨r1, ⟨r3, r4, r5, r6⟩, _⟩ := hr
  refine ih1 G m s M 0 D r1 hs hN hG hL (by omega) hM (by omega) hM2 (by omega) (fun t1 D1 F1 R1 N1 L1 => ?_) (fun t1 D1 F1 => ?_)
  · have F12 : NFR m (m + (rl f + 1)) D D1 := F1.to (Nat.le_refl _) (by omega)
    have q3 : gA D1 516 (m + rl f) = i32 9 := (F1.2.1 516 _ (by omega)).trans r3
    have q4 : gA D1 517 (m + rl f) = i32 126 := (F1.2.1 517 _ (by omega)).trans r4
    have q5 : gA D1 518 (m + rl f) = i32 0 := (F1.2.1 518 _ (by omega)).trans r5
    refine n_oth (p := m + rl f) ((F1.1 519 (by decide)).trans hM) (by omega) hM2 q3 (by omega) (by omega) L1 (by omega) hd ?_
    refine h1 t1 D1 F12 ?_ N1 L1
    show RD (Fdr D1) m (eL f (some G) m s 0 ++ [(9, 126, 0, 0)])
    rw [RD_app, eL_len]
    exact ⟨R1, ⟨q3, q4, q5, fun z => absurd z (by decide)⟩, trivial⟩
  · exact h0 t1 D1 (F1.to (Nat.le_refl _) (by omega))
theorem x_if (hd : 5 ≤ d) (ih1 : NL d Q e) (ih2 : NL d Q f) (ih3 : NL d Q g) : NL d Q (.sub e (.add f g)) := by
  intro G m s M E0 D hr hs hN hG hL hL2 hM hmM hM2 hs2 h1 h0
  have hrl : rl (.sub e (.add f g)) = rl e + rl f + rl g + 3 := rfl
  have hsl : sl (.sub e (.add f g)) = sl e + sl f + sl g := sl_if
  have hbz : bz (.sub e (.add f g)) = bz e + bz f + bz g := rfl
  rw [hrl] at hmM h1 h0
  rw [hsl] at hs2
  rw [hbz] at hL2
  have hr : RD (Fdr D) m (eL e none m s 0 ++ ((13, m + rl e + 1 + rl f + 1, 0, 0) :: (eL f none (m + rl e + 1) (s + sl e) 0 ++ ((14, m + rl e + 1 + rl f + 1 + rl g, m + rl e, 0) :: (eL g none (m + rl e + 1 + rl f + 1) (s + sl e + sl f) 0 ++ [(18, 0, m + rl e + 1 + rl f, 0)]))))) := hr
  have hs : RS (Gdr D) s (eS e ++ (eS f ++ eS g)) := hs
  rw [RD_app, eL_len] at hr
  obtain ⟨r1, ⟨a1, a2, a3, a4⟩, hr⟩ := hr
  rw [RD_app, eL_len] at hr
  obtain ⟨r2, ⟨b1, b2, b3, b4⟩, hr⟩ := hr
  rw [RD_app, eL_len] at hr
  obtain ⟨r3, ⟨c1, c2, c3, c4⟩, _⟩ := hr
  rw [RS_app, RS_app, eS_len, eS_len] at hs
  refine ih1 G m s M 0 D r1 hs.1 hN hG hL (by omega) hM (by omega) hM2 (by omega) (fun t1 D1 F1 R1 N1 L1 => ?_) (fun t1 D1 F1 => ?_)
  · have H1 : NFR m (m + (rl e + rl f + rl g + 3)) D D1 := F1.to (Nat.le_refl _) (by omega)
    refine n_oth (p := m + rl e) ((F1.1 519 (by decide)).trans hM) (by omega) hM2 ((F1.2.1 516 _ (by omega)).trans a1) (by omega) (by omega) L1 (by omega) hd ?_
    refine ih2 G (m + rl e + 1) (s + sl e) M 0 D1 (r2.nf F1 (by omega)) (hs.2.1.nf F1) N1 hG L1 (by omega) ((F1.1 519 (by decide)).trans hM) (by omega) hM2 (by omega) (fun t2 D2 F2 R2 N2 L2 => ?_) (fun t2 D2 F2 => ?_)
    · have H2 : NFR m (m + (rl e + rl f + rl g + 3)) D D2 := H1.trans (F2.to (by omega) (by omega))
      have hM2' := (H2.1 519 (by decide)).trans hM
      refine n_oth (p := m + rl e + 1 + rl f) hM2' (by omega) hM2 ((H2.2.1 516 _ (by omega)).trans b1) (by omega) (by omega) L2 (by omega) hd ?_
      refine ih3 G (m + rl e + 1 + rl f + 1) (s + sl e + sl f) M 0 D2 ((r3.nf F1 (by omega)).nf F2 (by omega)) ((hs.2.2.nf F1).nf F2) N2 hG L2 (by omega) hM2' (by omega) hM2 (by omega) (fun t3 D3 F3 R3 N3 L3 => ?_) (fun t3 D3 F3 => ?_)
      · have H3 : NFR m (m + (rl e + rl f + rl g + 3)) D D3 := H2.trans (F3.to (by omega) (by omega))
        have hM3' := (H3.1 519 (by decide)).trans hM
        refine n_oth (p := m + rl e + 1 + rl f + 1 + rl g) hM3' (by omega) hM2 ((H3.2.1 516 _ (by omega)).trans c1) (by omega) (by omega) L3 (by omega) hd ?_
        have e1 : m + rl e + 1 + rl f + 1 + rl g + 1 = m + (rl e + rl f + rl g + 3) := by omega
        rw [e1]
        refine h1 (by unfold nm; rw [t1, t2, t3]; rfl) D3 H3 ?_ N3 L3
        have low : ∀ i, gA D 517 i = gA D1 517 i ∨ True := fun _ => .inr trivial
        show RD (Fdr D3) m (eL e (some G) m s 0 ++ ((13, m + rl e + 1 + rl f + 1, 0, 0) :: (eL f (some G) (m + rl e + 1) (s + sl e) 0 ++ ((14, m + rl e + 1 + rl f + 1 + rl g, m + rl e, 0) :: (eL g (some G) (m + rl e + 1 + rl f + 1) (s + sl e + sl f) 0 ++ [(18, 0, m + rl e + 1 + rl f, 0)])))))
        rw [RD_app, eL_len]
        refine ⟨(R1.nf F2 (by rw [eL_len]; omega)).nf F3 (by rw [eL_len]; omega), ⟨(H3.2.1 516 _ (by omega)).trans a1, (F3.2.1 517 _ (by omega)).trans ((F2.2.1 517 _ (by omega)).trans ((F1.2.1 517 _ (by omega)).trans a2)), (H3.2.1 518 _ (by omega)).trans a3, fun z => absurd z (by decide)⟩, ?_⟩
        rw [RD_app, eL_len]
        refine ⟨R2.nf F3 (by rw [eL_len]; omega), ⟨(H3.2.1 516 _ (by omega)).trans b1, (F3.2.1 517 _ (by omega)).trans ((F2.2.1 517 _ (by omega)).trans ((F1.2.1 517 _ (by omega)).trans b2)), (H3.2.1 518 _ (by omega)).trans b3, fun z => absurd z (by decide)⟩, ?_⟩
        rw [RD_app, eL_len]
        exact ⟨R3, ⟨(H3.2.1 516 _ (by omega)).trans c1, (F3.2.1 517 _ (by omega)).trans ((F2.2.1 517 _ (by omega)).trans ((F1.2.1 517 _ (by omega)).trans c2)), (H3.2.1 518 _ (by omega)).trans c3, fun z => absurd z (by decide)⟩, trivial⟩
      · exact h0 (by unfold nm; rw [t1, t2, t3]; rfl) D3 (H2.trans (F3.to (by omega) (by omega)))
    · exact h0 (by unfold nm; rw [t1, t2]; rfl) D2 (H1.trans (F2.to (by omega) (by omega)))
  · exact h0 (by unfold nm; rw [t1]; rfl) D1 (F1.to (Nat.le_refl _) (by omega))
theorem x_fun (hd : 5 ≤ d) (hc : lc c) (ih1 : NL d Q f) : NL d Q (.pow (.neg f) c) := by
  intro G m s M E0 D hr hs hN hG hL hL2 hM hmM hM2 hs2 h1 h0
  have hrl : rl (.pow (.neg f) c) = rl f + 2 := rfl
  have hsl : sl (.pow (.neg f) c) = sl f := rfl
  have hbz : bz (.pow (.neg f) c) = bz f + 1 := rfl
  rw [hrl] at hmM h1 h0
  rw [hsl] at hs2
  rw [hbz] at hL2
  have hr : RD (Fdr D) m ((6, m + 1 + rl f + 1, c, 0) :: (eL f none (m + 1) s 0 ++ [(7, 0, m, 0)])) := hr
  have hs : RS (Gdr D) s (eS f) := hs
  obtain ⟨⟨a1, a2, a3, a4⟩, hr⟩ := hr
  rw [RD_app, eL_len] at hr
  obtain ⟨r1, ⟨b1, b2, b3, b4⟩, _⟩ := hr
  have hG' : ∀ x, x ∈ c :: G → x < 128 := fun x hx => by
    rcases List.mem_cons.mp hx with rfl | h
    · exact Nat.lt_trans hc.2 (by decide)
    · exact hG x h
  refine n_bnd hM (by omega) hM2 a1 (.inl rfl) a3 hN hL (by omega) hd fun D0 F0 N0 L0 => ?_
  have H0 : NFR m (m + (rl f + 2)) D D0 := F0.zero
  refine ih1 (c :: G) (m + 1) s M 0 D0 (r1.nf F0 (by omega)) (hs.nf F0) N0 hG' L0 (by show G.length + 1 + _ < 63; omega) ((F0.1 519 (by decide)).trans hM) (by omega) hM2 (by omega) (fun t1 D1 F1 R1 N1 L1 => ?_) (fun t1 D1 F1 => ?_)
  · have H1 : NFR m (m + (rl f + 2)) D D1 := H0.trans (F1.to (by omega) (by omega))
    have hM' := (H1.1 519 (by decide)).trans hM
    refine n_end (X := [c]) hM' (by omega) hM2 ((H1.2.1 516 _ (by omega)).trans b1) (.inl ⟨rfl, rfl⟩) N1 L1 (by show G.length + 1 < 64; omega) hd fun D2 F2 N2 L2 => ?_
    have H2 : NFR m (m + (rl f + 2)) D D2 := H1.trans F2.zero
    have e1 : m + 1 + rl f + 1 = m + (rl f + 2) := by omega
    rw [e1]
    refine h1 t1 D2 H2 ?_ N2 L2
    show RD (Fdr D2) m ((6, m + 1 + rl f + 1, c, 0) :: (eL f (some (c :: G)) (m + 1) s 0 ++ [(7, 0, m, 0)]))
    refine ⟨⟨(H2.2.1 516 _ (by omega)).trans a1, (F2.2.1 517 _ (by omega)).trans ((F1.2.1 517 _ (by omega)).trans ((F0.2.1 517 _ (by omega)).trans a2)), (H2.2.1 518 _ (by omega)).trans a3, fun z => absurd z (by decide)⟩, ?_⟩
    rw [RD_app, eL_len]
    exact ⟨R1.nf F2 (by omega), ⟨(H2.2.1 516 _ (by omega)).trans b1, (F2.2.1 517 _ (by omega)).trans ((F1.2.1 517 _ (by omega)).trans ((F0.2.1 517 _ (by omega)).trans b2)), (H2.2.1 518 _ (by omega)).trans b3, fun z => absurd z (by decide)⟩, trivial⟩
  · exact h0 t1 D1 (H0.trans (F1.to (by omega) (by omega)))
theorem x_let (hd : 5 ≤ d) (hc : lc c) (ih1 : NL d Q f) (ih2 : NL d Q g) : NL d Q (.pow (.sub f g) c) := by
  intro G m s M E0 D hr hs hN hG hL hL2 hM hmM hM2 hs2 h1 h0
  have hrl : rl (.pow (.sub f g) c) = rl f + rl g + 2 := rfl
  have hsl : sl (.pow (.sub f g) c) = sl f + sl g := sl_let
  have hbz : bz (.pow (.sub f g) c) = bz f + bz g + 1 := rfl
  rw [hrl] at hmM h1 h0
  rw [hsl] at hs2
  rw [hbz] at hL2
  have hr : RD (Fdr D) m (eL f none m s 0 ++ ((10, 0, c, 0) :: (eL g none (m + rl f + 1) (s + sl f) 0 ++ [(12, 1, c, 0)]))) := hr
  have hs : RS (Gdr D) s (eS f ++ eS g) := hs
  rw [RD_app, eL_len] at hr
  obtain ⟨r1, ⟨a1, a2, a3, a4⟩, hr⟩ := hr
  rw [RD_app, eL_len] at hr
  obtain ⟨r2, ⟨b1, b2, b3, b4⟩, _⟩ := hr
  rw [RS_app, eS_len] at hs
  have hG' : ∀ x, x ∈ c :: G → x < 128 := fun x hx => by
    rcases List.mem_cons.mp hx with rfl | h
    · exact Nat.lt_trans hc.2 (by decide)
    · exact hG x h
  refine ih1 G m s M 0 D r1 hs.1 hN hG hL (by omega) hM (by omega) hM2 (by omega) (fun t1 D1 F1 R1 N1 L1 => ?_) (fun t1 D1 F1 => ?_)
  · have H1 : NFR m (m + (rl f + rl g + 2)) D D1 := F1.to (Nat.le_refl _) (by omega)
    refine n_bnd (p := m + rl f) ((H1.1 519 (by decide)).trans hM) (by omega) hM2 ((H1.2.1 516 _ (by omega)).trans a1) (.inr (.inl rfl)) ((H1.2.1 518 _ (by omega)).trans a3) N1 L1 (by omega) hd fun D0 F0 N0 L0 => ?_
    have H0 : NFR m (m + (rl f + rl g + 2)) D D0 := H1.trans F0.zero
    refine ih2 (c :: G) (m + rl f + 1) (s + sl f) M 0 D0 ((r2.nf F1 (by omega)).nf F0 (by omega)) ((hs.2.nf F1).nf F0) N0 hG' L0 (by show G.length + 1 + _ < 63; omega) ((H0.1 519 (by decide)).trans hM) (by omega) hM2 (by omega) (fun t2 D2 F2 R2 N2 L2 => ?_) (fun t2 D2 F2 => ?_)
    · have H2 : NFR m (m + (rl f + rl g + 2)) D D2 := H0.trans (F2.to (by omega) (by omega))
      have low : ∀ i, (i = m + rl f ∨ i = m + rl f + 1 + rl g) → gA D2 517 i = gA D 517 i := fun i hi => (F2.2.1 517 _ (by omega)).trans ((F0.2.1 517 _ (by omega)).trans (F1.2.1 517 _ (by omega)))
      refine n_end (X := [c]) ((H2.1 519 (by decide)).trans hM) (by omega) hM2 ((H2.2.1 516 _ (by omega)).trans b1) (.inr ⟨rfl, (low _ (.inr rfl)).trans b2⟩) N2 L2 (by show G.length + 1 < 64; omega) hd fun D3 F3 N3 L3 => ?_
      have H3 : NFR m (m + (rl f + rl g + 2)) D D3 := H2.trans F3.zero
      have e1 : m + rl f + 1 + rl g + 1 = m + (rl f + rl g + 2) := by omega
      rw [e1]
      refine h1 (by unfold nm; rw [t1]; exact t2) D3 H3 ?_ N3 L3
      show RD (Fdr D3) m (eL f (some G) m s 0 ++ ((10, 0, c, 0) :: (eL g (some (c :: G)) (m + rl f + 1) (s + sl f) 0 ++ [(12, 1, c, 0)])))
      rw [RD_app, eL_len]
      refine ⟨((R1.nf F0 (by omega)).nf F2 (by rw [eL_len]; omega)).nf F3 (by omega), ⟨(H3.2.1 516 _ (by omega)).trans a1, (F3.2.1 517 _ (by omega)).trans ((low _ (.inl rfl)).trans a2), (H3.2.1 518 _ (by omega)).trans a3, fun z => absurd z (by decide)⟩, ?_⟩
      rw [RD_app, eL_len]
      exact ⟨R2.nf F3 (by omega), ⟨(H3.2.1 516 _ (by omega)).trans b1, (F3.2.1 517 _ (by omega)).trans ((low _ (.inr rfl)).trans b2), (H3.2.1 518 _ (by omega)).trans b3, fun z => absurd z (by decide)⟩, trivial⟩
    · exact h0 (by unfold nm; rw [t1]; exact t2) D2 (H0.trans (F2.to (by omega) (by omega)))
  · exact h0 (by unfold nm; rw [t1]; rfl) D1 (F1.to (Nat.le_refl _) (by omega))
theorem x_rec (hd : 5 ≤ d) (hc : lc c) (ih1 : NL d Q f) (ih2 : NL d Q g) : NL d Q (.pow (.mul f g) c) := by
  intro G m s M E0 D hr hs hN hG hL hL2 hM hmM hM2 hs2 h1 h0
  have hrl : rl (.pow (.mul f g) c) = rl f + rl g + 3 := rfl
  have hsl : sl (.pow (.mul f g) c) = sl f + sl g := sl_rec
  have hbz : bz (.pow (.mul f g) c) = bz f + bz g + 1 := rfl
  rw [hrl] at hmM h1 h0
  rw [hsl] at hs2
  rw [hbz] at hL2
  have hr : RD (Fdr D) m ((19, 0, c, 0) :: (eL f none (m + 1) s 0 ++ ((11, 0, c, 0) :: (eL g none (m + 1 + rl f + 1) (s + sl f) 0 ++ [(12, 1, c, 0)])))) := hr
  have hs : RS (Gdr D) s (eS f ++ eS g) := hs
  obtain ⟨⟨c1, c2, c3, c4⟩, hr⟩ := hr
  rw [RD_app, eL_len] at hr
  obtain ⟨r1, ⟨a1, a2, a3, a4⟩, hr⟩ := hr
  rw [RD_app, eL_len] at hr
  obtain ⟨r2, ⟨b1, b2, b3, b4⟩, _⟩ := hr
  rw [RS_app, eS_len] at hs
  have hG' : ∀ x, x ∈ c :: G → x < 128 := fun x hx => by
    rcases List.mem_cons.mp hx with rfl | h
    · exact Nat.lt_trans hc.2 (by decide)
    · exact hG x h
  refine n_bnd hM (by omega) hM2 c1 (.inr (.inr rfl)) c3 hN hL (by omega) hd fun D0 F0 N0 L0 => ?_
  have H0 : NFR m (m + (rl f + rl g + 3)) D D0 := F0.zero
  refine ih1 (c :: G) (m + 1) s M 0 D0 (r1.nf F0 (by omega)) (hs.1.nf F0) N0 hG' L0 (by show G.length + 1 + _ < 63; omega) ((H0.1 519 (by decide)).trans hM) (by omega) hM2 (by omega) (fun t1 D1 F1 R1 N1 L1 => ?_) (fun t1 D1 F1 => ?_)
  · have H1 : NFR m (m + (rl f + rl g + 3)) D D1 := H0.trans (F1.to (by omega) (by omega))
    refine n_oth (p := m + 1 + rl f) ((H1.1 519 (by decide)).trans hM) (by omega) hM2 ((H1.2.1 516 _ (by omega)).trans a1) (by omega) (by omega) L1 (by show G.length + 1 < 64; omega) hd ?_
    refine ih2 (c :: G) (m + 1 + rl f + 1) (s + sl f) M 0 D1 ((r2.nf F0 (by omega)).nf F1 (by omega)) ((hs.2.nf F0).nf F1) N1 hG' L1 (by show G.length + 1 + _ < 63; omega) ((H1.1 519 (by decide)).trans hM) (by omega) hM2 (by omega) (fun t2 D2 F2 R2 N2 L2 => ?_) (fun t2 D2 F2 => ?_)
    · have H2 : NFR m (m + (rl f + rl g + 3)) D D2 := H1.trans (F2.to (by omega) (by omega))
      have low : ∀ i, (i = m ∨ i = m + 1 + rl f ∨ i = m + 1 + rl f + 1 + rl g) → gA D2 517 i = gA D 517 i := fun i hi => (F2.2.1 517 _ (by omega)).trans ((F1.2.1 517 _ (by omega)).trans (F0.2.1 517 _ (by omega)))
      refine n_end (X := [c]) ((H2.1 519 (by decide)).trans hM) (by omega) hM2 ((H2.2.1 516 _ (by omega)).trans b1) (.inr ⟨rfl, (low _ (.inr (.inr rfl))).trans b2⟩) N2 L2 (by show G.length + 1 < 64; omega) hd fun D3 F3 N3 L3 => ?_
      have H3 : NFR m (m + (rl f + rl g + 3)) D D3 := H2.trans F3.zero
      have e1 : m + 1 + rl f + 1 + rl g + 1 = m + (rl f + rl g + 3) := by omega
      rw [e1]
      refine h1 (by unfold nm; rw [t1]; exact t2) D3 H3 ?_ N3 L3
      show RD (Fdr D3) m ((19, 0, c, 0) :: (eL f (some (c :: G)) (m + 1) s 0 ++ ((11, 0, c, 0) :: (eL g (some (c :: G)) (m + 1 + rl f + 1) (s + sl f) 0 ++ [(12, 1, c, 0)]))))
      refine ⟨⟨(H3.2.1 516 _ (by omega)).trans c1, (F3.2.1 517 _ (by omega)).trans ((low _ (.inl rfl)).trans c2), (H3.2.1 518 _ (by omega)).trans c3, fun z => absurd z (by decide)⟩, ?_⟩
      rw [RD_app, eL_len]
      refine ⟨(R1.nf F2 (by rw [eL_len]; omega)).nf F3 (by omega), ⟨(H3.2.1 516 _ (by omega)).trans a1, (F3.2.1 517 _ (by omega)).trans ((low _ (.inr (.inl rfl))).trans a2), (H3.2.1 518 _ (by omega)).trans a3, fun z => absurd z (by decide)⟩, ?_⟩
      rw [RD_app, eL_len]
      exact ⟨R2.nf F3 (by omega), ⟨(H3.2.1 516 _ (by omega)).trans b1, (F3.2.1 517 _ (by omega)).trans ((low _ (.inr (.inr rfl))).trans b2), (H3.2.1 518 _ (by omega)).trans b3, fun z => absurd z (by decide)⟩, trivial⟩
    · exact h0 (by unfold nm; rw [t1]; exact t2) D2 (H1.trans (F2.to (by omega) (by omega)))
  · exact h0 (by unfold nm; rw [t1]; rfl) D1 (H0.trans (F1.to (by omega) (by omega)))
theorem x_case (hd : 5 ≤ d) (ih1 : NL d Q f) (ih2 : NL d Q g) : NL d Q (.add f g) := by
  intro G m s M E0 D hr hs hN hG hL hL2 hM hmM hM2 hs2 h1 h0
  have hrl : rl (.add f g) = rl f + 1 + rl g := rfl
  have hsl : sl (.add f g) = sl f + sl g := sl_case
  have hbz : bz (.add f g) = bz f + bz g := rfl
  rw [hrl] at hmM h1 h0
  rw [hsl] at hs2
  rw [hbz] at hL2
  have hr : RD (Fdr D) m (eL f none m s 0 ++ ((15, 0, 0, 0) :: eL g none (m + rl f + 1) (s + sl f) (m + rl f + 1 + rl g))) := hr
  have hs : RS (Gdr D) s (eS f ++ eS g) := hs
  rw [RD_app, eL_len] at hr
  obtain ⟨r1, ⟨a1, a2, a3, a4⟩, r2⟩ := hr
  rw [RS_app, eS_len] at hs
  refine ih1 G m s M 0 D r1 hs.1 hN hG hL (by omega) hM (by omega) hM2 (by omega) (fun t1 D1 F1 R1 N1 L1 => ?_) (fun t1 D1 F1 => ?_)
  · have H1 : NFR m (m + (rl f + 1 + rl g)) D D1 := F1.to (Nat.le_refl _) (by omega)
    refine n_oth (p := m + rl f) ((H1.1 519 (by decide)).trans hM) (by omega) hM2 ((H1.2.1 516 _ (by omega)).trans a1) (by omega) (by omega) L1 (by omega) hd ?_
    refine ih2 G (m + rl f + 1) (s + sl f) M _ D1 (r2.nf F1 (by omega)) (hs.2.nf F1) N1 hG L1 (by omega) ((H1.1 519 (by decide)).trans hM) (by omega) hM2 (by omega) (fun t2 D2 F2 R2 N2 L2 => ?_) (fun t2 D2 F2 => ?_)
    · have H2 : NFR m (m + (rl f + 1 + rl g)) D D2 := H1.trans (F2.to (by omega) (by omega))
      have e1 : m + rl f + 1 + rl g = m + (rl f + 1 + rl g) := by omega
      rw [e1]
      refine h1 (by unfold nm; rw [t1, t2]; rfl) D2 H2 ?_ N2 L2
      show RD (Fdr D2) m (eL f (some G) m s 0 ++ ((15, 0, 0, 0) :: eL g (some G) (m + rl f + 1) (s + sl f) (m + rl f + 1 + rl g)))
      rw [RD_app, eL_len]
      exact ⟨R1.nf F2 (by rw [eL_len]; omega), ⟨(H2.2.1 516 _ (by omega)).trans a1, (F2.2.1 517 _ (by omega)).trans ((F1.2.1 517 _ (by omega)).trans a2), (H2.2.1 518 _ (by omega)).trans a3, fun z => absurd z (by decide)⟩, R2⟩
    · exact h0 (by unfold nm; rw [t1, t2]; rfl) D2 (H1.trans (F2.to (by omega) (by omega)))
  · exact h0 (by unfold nm; rw [t1]; rfl) D1 (F1.to (Nat.le_refl _) (by omega))
theorem x_nil (hd : 5 ≤ d) : NL d Q (.natCast v') := by
  intro G m s M E0 D hr hs hN hG hL hL2 hM hmM hM2 hs2 h1 h0
  have hmM : m + 1 ≤ M := hmM
  have hL2 : G.length + 0 < 63 := hL2
  obtain ⟨⟨r1, r2, r3, r4⟩, _⟩ := hr
  refine n_oth hM (by omega) hM2 r1 (by omega) (by omega) hL (by omega) hd ?_
  exact h1 rfl D NFR.refl ⟨⟨r1, r2, r3, r4⟩, trivial⟩ hN hL
theorem pv_lc {q : tE} (h : PC q) : ∀ x, x ∈ pv q → x < 128 := by
  induction q with
  | var c =>
    intro x hx
    have hx : x ∈ (if (show Nat from c) = 0 then [] else [c]) := hx
    split at hx
    · cases hx
    · rename_i hz
      rw [List.mem_singleton] at hx
      subst hx
      exact Nat.lt_trans (h.resolve_left hz).2 (by decide)
  | pow a k ih =>
    cases a with
    | natCast v => intro x hx; cases hx
    | _ => exact h.elim
  | mul q r ih1 ih2 =>
    intro x hx
    have hx : x ∈ pv q ++ pv r := hx
    rcases List.mem_append.mp hx with hx | hx
    · exact ih1 h.1 x hx
    · exact ih2 h.2 x hx
  | _ => exact h.elim
theorem x_cons {q : tE} (hd : 5 ≤ d) (hq : PC q) (ih1 : NL d Q f) (ih2 : NL d Q g) : NL d Q (.sub q (.sub f g)) := by
  intro G m s M E0 D hr hs hN hG hL hL2 hM hmM hM2 hs2 h1 h0
  have hrl : rl (.sub q (.sub f g)) = rl f + 3 + rl g := rfl
  have hsl : sl (.sub q (.sub f g)) = (pl q).length + sl f + sl g := sl_cons
  have hbz : bz (.sub q (.sub f g)) = (pv q).length + bz f + bz g := rfl
  rw [hrl] at hmM h1 h0
  rw [hsl] at hs2
  rw [hbz] at hL2
  have hr : RD (Fdr D) m ((16, s, s + (pl q).length, m + 1 + rl f + 2) :: (eL f none (m + 1) (s + (pl q).length) 0 ++ ((12, (pv q).length, 0, 0) :: (14, E0, 0, 0) :: eL g none (m + 1 + rl f + 2) (s + (pl q).length + sl f) E0))) := hr
  have hs : RS (Gdr D) s (pl q ++ (eS f ++ eS g)) := hs
  obtain ⟨⟨a1, a2, a3, a4⟩, hr⟩ := hr
  rw [RD_app, eL_len] at hr
  obtain ⟨r1, ⟨b1, b2, b3, b4⟩, ⟨c1, c2, c3, c4⟩, r2⟩ := hr
  rw [RS_app, RS_app, eS_len] at hs
  have hG' : ∀ x, x ∈ (pv q).reverse ++ G → x < 128 := fun x hx => by
    rcases List.mem_append.mp hx with h | h
    · exact pv_lc hq x (List.mem_reverse.mp h)
    · exact hG x h
  have hlen : ((pv q).reverse ++ G).length = G.length + (pv q).length := by rw [List.length_append, List.length_reverse]; omega
  refine n_pat hM (by omega) hM2 a1 hq a2 a3 (by omega) hs.1 hN hL (by omega) hd fun D0 F0 N0 L0 => ?_
  have H0 : NFR m (m + (rl f + 3 + rl g)) D D0 := F0.zero
  rw [← hlen] at L0
  refine ih1 ((pv q).reverse ++ G) (m + 1) (s + (pl q).length) M 0 D0 (r1.nf F0 (by omega)) (hs.2.1.nf F0) N0 hG' L0 (by omega) ((H0.1 519 (by decide)).trans hM) (by omega) hM2 (by omega) (fun t1 D1 F1 R1 N1 L1 => ?_) (fun t1 D1 F1 => ?_)
  · have H1 : NFR m (m + (rl f + 3 + rl g)) D D1 := H0.trans (F1.to (by omega) (by omega))
    have low1 : ∀ i, (i = m ∨ m + 1 + rl f ≤ i) → gA D1 517 i = gA D 517 i := fun i hi => (F1.2.1 517 _ (by omega)).trans (F0.2.1 517 _ (by omega))
    refine n_end (X := (pv q).reverse) ((H1.1 519 (by decide)).trans hM) (by omega) hM2 ((H1.2.1 516 _ (by omega)).trans b1) (.inr ⟨rfl, by rw [List.length_reverse]; exact (low1 _ (.inr (Nat.le_refl _))).trans b2⟩) N1 L1 (by omega) hd fun D2 F2 N2 L2 => ?_
    have H2 : NFR m (m + (rl f + 3 + rl g)) D D2 := H1.trans F2.zero
    refine n_oth (p := m + 1 + rl f + 1) ((H2.1 519 (by decide)).trans hM) (by omega) hM2 ((H2.2.1 516 _ (by omega)).trans c1) (by omega) (by omega) L2 (by omega) hd ?_
    refine ih2 G (m + 1 + rl f + 2) (s + (pl q).length + sl f) M E0 D2 (((r2.nf F0 (by omega)).nf F1 (by omega)).nf F2 (by omega)) (((hs.2.2.nf F0).nf F1).nf F2) N2 hG L2 (by omega) ((H2.1 519 (by decide)).trans hM) (by omega) hM2 (by omega) (fun t3 D3 F3 R3 N3 L3 => ?_) (fun t3 D3 F3 => ?_)
    · have H3 : NFR m (m + (rl f + 3 + rl g)) D D3 := H2.trans (F3.to (by omega) (by omega))
      have low : ∀ i, (i = m ∨ i = m + 1 + rl f ∨ i = m + 1 + rl f + 1) → gA D3 517 i = gA D 517 i := fun i hi => (F3.2.1 517 _ (by omega)).trans ((F2.2.1 517 _ (by omega)).trans (low1 _ (by omega)))
      have e1 : m + 1 + rl f + 2 + rl g = m + (rl f + 3 + rl g) := by omega
      rw [e1]
      refine h1 (by unfold nm; rw [t1, t3]; rfl) D3 H3 ?_ N3 L3
      show RD (Fdr D3) m ((16, s, s + (pl q).length, m + 1 + rl f + 2) :: (eL f (some ((pv q).reverse ++ G)) (m + 1) (s + (pl q).length) 0 ++ ((12, (pv q).length, 0, 0) :: (14, E0, 0, 0) :: eL g (some G) (m + 1 + rl f + 2) (s + (pl q).length + sl f) E0)))
      refine ⟨⟨(H3.2.1 516 _ (by omega)).trans a1, (low _ (.inl rfl)).trans a2, (H3.2.1 518 _ (by omega)).trans a3, fun z => (H3.2.1 537 _ (by omega)).trans (a4 z)⟩, ?_⟩
      rw [RD_app, eL_len]
      exact ⟨(R1.nf F2 (by omega)).nf F3 (by rw [eL_len]; omega), ⟨(H3.2.1 516 _ (by omega)).trans b1, (low _ (.inr (.inl rfl))).trans b2, (H3.2.1 518 _ (by omega)).trans b3, fun z => absurd z (by decide)⟩, ⟨(H3.2.1 516 _ (by omega)).trans c1, (low _ (.inr (.inr rfl))).trans c2, (H3.2.1 518 _ (by omega)).trans c3, fun z => absurd z (by decide)⟩, R3⟩
    · exact h0 (by unfold nm; rw [t1, t3]; rfl) D3 (H2.trans (F3.to (by omega) (by omega)))
  · exact h0 (by unfold nm; rw [t1]; rfl) D1 (H0.trans (F1.to (by omega) (by omega)))
theorem NL_all (hd : 5 ≤ d) (e : tE) : ∀ b, EB e b → NL d Q e := by
  induction e using rl.induct with
  | case1 v k => intro b h; cases b; exact x_plain hd h; exact h.elim
  | case2 c => intro b h; cases b; exact x_name hd h; exact h.elim
  | case3 f c ih => intro b h; cases b; exact x_fun hd h.1 (ih _ h.2); exact h.elim
  | case4 f a ih1 ih2 => intro b h; cases b; exact x_app hd (ih1 _ h.1) (ih2 _ h.2); exact h.elim
  | case5 l r o ih1 ih2 => intro b h; cases b; exact x_op hd (ih1 _ h.2.1) (ih2 _ h.2.2); exact h.elim
  | case6 r ih => intro b h; cases b; exact x_neg hd (ih _ h); exact h.elim
  | case7 t y z ih1 ih2 ih3 => intro b h; cases b; exact x_if hd (ih1 _ h.1) (ih2 _ h.2.1) (ih3 _ h.2.2); exact h.elim
  | case8 w i c ih1 ih2 => intro b h; cases b; exact x_let hd h.1 (ih1 _ h.2.1) (ih2 _ h.2.2); exact h.elim
  | case9 w i c ih1 ih2 => intro b h; cases b; exact x_rec hd h.1 (ih1 _ h.2.2.1) (ih2 _ h.2.2.2); exact h.elim
  | case10 w cl ih1 ih2 => intro b h; cases b; exact x_case hd (ih1 _ h.1) (ih2 _ h.2.2); exact h.elim
  | case11 q e r ih1 ih2 => intro b h; cases b; exact h.elim; exact x_cons hd h.1 (ih1 _ h.2.1) (ih2 _ h.2.2)
  | case12 m => intro b h; cases b; exact h.elim; exact x_nil hd
  | case13 e h1 h2 h3 h4 h5 h6 h7 h8 h9 h10 h11 h12 =>
    intro b h
    unfold EB at h
    split at h <;> simp_all
/-- all names of the row are found -/
theorem m_names (he : EB e false) (hbz : bz e < 63) (hr : RD (Fdr D) 0 (eL e none 0 0 0)) (hs : RS (Gdr D) 0 (eS e)) (hM : gI D 519 = i32 (rl e)) (hM2 : rl e ≤ 122) (hs2 : sl e ≤ 80) (hd : 6 ≤ d)
    (h1 : nm e [] = true → ∀ D', NFR 0 (rl e) D D' → RD (Fdr D') 0 (eL e (some []) 0 0 0) → Q (.inl (some (.int 1))) (toH D'))
    (h0 : nm e [] = false → ∀ D', NFR 0 (rl e) D D' → Q (.inl (some (.int 0))) (toH D')) : AC d 108 [.ref 40] (toH D) Q := by
  refine AC.pos hd fun d' hd' => ?_
  rw [e108]
  simp only [x108_0, x108_1, x108_2, x108_5, x108_6, x108_8, x108_9, x108_12, x108_15, x108_16, x108_19, x108_20, x108_21, x108_22, x108_25, x108_26, x108_29, x108_30, x108_31, x108_33, x108_36, x108_37, x108_40, x108_41, x108_42, x108_43, x108_46, x108_47, x108_48, x108_51, x108_54, x108_57, x108_58, x108_61, x108_62, x108_63, x108_64, x108_67, x108_68, x108_69, x108_72, x108_73, x108_74, x108_75, x108_76, x108_77, x108_78, x108_79, x108_82, x108_85, x108_88, x108_89, gI_sI, gI_sR, gI_sA, gI_sL, gI_sF, gI_sQ, gI_sG, gI_sN, gR_sI, gR_sR, gR_sA, gR_sL, gR_sF, gR_sQ, gR_sG, gR_sN, gA_sI, gA_sR, gA_sA, gA_sL, gA_sF, gA_sQ, gA_sG, gA_sN, gL_sI, gL_sR, gL_sA, gL_sL, gL_sF, gL_sQ, gL_sG, gL_sN, gF_sI, gF_sR, gF_sA, gF_sL, gF_sF, gF_sQ, gF_sG, gF_sN, gQ_sI, gQ_sR, gQ_sA, gQ_sL, gQ_sF, gQ_sQ, gQ_sG, gQ_sN, gN_sI, gN_sR, gN_sA, gN_sL, gN_sF, gN_sQ, gN_sG, gN_sN, gS_sI, gS_sR, gS_sA, gS_sL, gS_sF, gS_sQ, gS_sG, gS_sN, gO_sI, gO_sR, gO_sA, gO_sL, gO_sF, gO_sQ, gO_sN, isR_ref, isR_null, isR_rf, isR2_ref, isR2_null, isR2_rf, am_k_int, am_k_ref, am_k_null, am_k_rf, am_k_none, am_k_long, am_k_double, rf_some, rf_none, KT_ret, KT_void, XP_ap, true_and, and_true, Nat.reduceAdd, Nat.reduceEqDiff, reduceIte, if_true, if_false, eq_self, true_or, or_true, forall_const, not_true_eq_false, not_false_eq_true]
  have F0 : NFR 0 0 D (sI D 542 0) := NFR.refl.ar
  have F0' : NFR 0 (rl e) D (sI D 542 0) := NFR.refl.ar
  have key : HN d' Q (sI D 542 0) 0 := by
    refine NL_all (by omega) e false he [] 0 0 (rl e) 0 _ (hr.nf F0 (by omega)) (hs.nf F0) trivial (fun x hx => by cases hx) rfl (by show 0 + bz e < 63; omega) hM (by omega) hM2 (by omega) (fun t D1 F1 R1 _ _ => ?_) (fun t D1 F1 => ?_)
    · rw [Nat.zero_add] at F1 ⊢
      intro b
      have hM1 : gI D1 519 = i32 (rl e) := (F1.1 519 (by decide)).trans hM
      rw [x108_7]
      simp only [x108_0, x108_1, x108_2, x108_5, x108_6, x108_8, x108_9, x108_12, x108_15, x108_16, x108_19, x108_20, x108_21, x108_22, x108_25, x108_26, x108_29, x108_30, x108_31, x108_33, x108_36, x108_37, x108_40, x108_41, x108_42, x108_43, x108_46, x108_47, x108_48, x108_51, x108_54, x108_57, x108_58, x108_61, x108_62, x108_63, x108_64, x108_67, x108_68, x108_69, x108_72, x108_73, x108_74, x108_75, x108_76, x108_77, x108_78, x108_79, x108_82, x108_85, x108_88, x108_89, gI_sI, gI_sR, gI_sA, gI_sL, gI_sF, gI_sQ, gI_sG, gI_sN, gR_sI, gR_sR, gR_sA, gR_sL, gR_sF, gR_sQ, gR_sG, gR_sN, gA_sI, gA_sR, gA_sA, gA_sL, gA_sF, gA_sQ, gA_sG, gA_sN, gL_sI, gL_sR, gL_sA, gL_sL, gL_sF, gL_sQ, gL_sG, gL_sN, gF_sI, gF_sR, gF_sA, gF_sL, gF_sF, gF_sQ, gF_sG, gF_sN, gQ_sI, gQ_sR, gQ_sA, gQ_sL, gQ_sF, gQ_sQ, gQ_sG, gQ_sN, gN_sI, gN_sR, gN_sA, gN_sL, gN_sF, gN_sQ, gN_sG, gN_sN, gS_sI, gS_sR, gS_sA, gS_sL, gS_sF, gS_sQ, gS_sG, gS_sN, gO_sI, gO_sR, gO_sA, gO_sL, gO_sF, gO_sQ, gO_sN, isR_ref, isR_null, isR_rf, isR2_ref, isR2_null, isR2_rf, am_k_int, am_k_ref, am_k_null, am_k_rf, am_k_none, am_k_long, am_k_double, rf_some, rf_none, KT_ret, KT_void, XP_ap, true_and, and_true, Nat.reduceAdd, Nat.reduceEqDiff, reduceIte, if_true, if_false, eq_self, true_or, or_true, forall_const, not_true_eq_false, not_false_eq_true, hM1]
      rw [i32_lt (by omega) (by omega)]
      exact ⟨fun _ => h1 t D1 (F0'.trans F1) R1, fun z => by omega⟩
    · rw [Nat.zero_add] at F1
      exact h0 t D1 (F0'.trans F1)
  exact key _
end NF
