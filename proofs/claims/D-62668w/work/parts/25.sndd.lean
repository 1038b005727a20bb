/-! THE SMALL MACHINE, 18: the real machine follows it: calls -/
set_option maxRecDepth 100000
theorem am_hlen {m' n : Nat} (hm : m' < 221) (hn : n = am_np m') (sig : MethodDescriptor) (h : parseMethodDescriptor (am_y m').desc = some sig) : n = sig.parameters.length := by
  have h1 := (am_mokAll m' hm).2.2.2.2.2.1
  rw [h] at h1
  rw [hn]
  exact (Option.some.inj h1).symm
theorem am_imlen : ∀ j : Fin 6, (parseMethodDescriptor (am_im j).desc).map (fun d => d.parameters.length) = some (am_ni j) := by decide +kernel
theorem am_wt_fv {T : List Value} {φ : Nat → Nat} (h : am_wt T) : ((T.map (am_fv φ)).map fun v => v.category).sum ≤ 8 := by
  rw [List.map_map]
  have e : ((fun v : Value => v.category) ∘ am_fv φ) = fun v => v.category := by funext v; exact am_fv_cat v
  rw [e]
  exact h
def am_eM (dC : Nat → ClassId) (dI : Nat → Nat → Nat) (dA : Nat → ClassId) (ad : Nat → Nat) (B0 : Nat) (H0 : Heap) (φ : Nat → Nat) (T0 : Nat) (l : Launch) (R : Room) (M : am_M) : Prop := ∀ m' a h K, M m' a h K → m' < 221 ∧ ∃ fr lo, fr + 1 ≤ R.frames ∧ lo + 40 ≤ R.locals ∧
  ∀ kc ks, am_Met l (am_y m') (am_cdw (am_y m') (am_by m') (am_mL m') (am_rt m') (am_hh m') :: lw_all) { frames := fr, cells := kc, slots := ks, locals := lo } (am_Pc dC dI dA ad B0 H0 φ T0 a h kc ks) (am_Qc dC dI dA B0 H0 φ T0 K) kc ks (fun q => B0 ≤ q)
def am_eL (dC : Nat → ClassId) (dI : Nat → Nat → Nat) (dA : Nat → ClassId) (B0 : Nat) (H0 : Heap) (φ : Nat → Nat) (T0 : Nat) (p : Program) (l : Launch) (e : Env) (R : Room) (s : State) (mi : MethodId) (args : Array Value) (below : List Frame) (meth : Method) (c : Code) (Z : State → Prop) (Q : am_O → am_H → Prop) : Prop :=
  ∀ (x : Nat × Nat) (h' : am_H) (U : State) (locs : List Loc) (c1 s1 : Nat) (g : JFrame), Q (.inr x) h' → am_J dC dI dA B0 H0 φ T0 h' U.heap → am_exc x.2 = true → (∃ fs, h'.1 x.1 = some (.inr (x.2, fs))) → Stand p l e R s mi args below meth c U locs c1 s1 → g.method = mi → g.locked = none → g.entered = [] → (∀ z ∈ c.exceptionTable.toList, covers z g.pc = false) → (∀ q ∈ locs, B0 ≤ q.base) →
    ∃ t', Steps p.tables e below ((U.setTop g).pushFrame (.throwing (φ (x.1 + 1)))) t' ∧ Z t'
section SN4
variable {dC : Nat → ClassId} {dI : Nat → Nat → Nat} {dA : Nat → ClassId} {ad : Nat → Nat} {B0 : Nat} {H0 : Heap} {φ : Nat → Nat} {T0 : Nat} {m nL : Nat} {cc : ByteArray} {p : Program} {l : Launch} {e : Env} {R : Room} {s : State} {mi : MethodId} {args : Array Value} {below : List Frame} {meth : Method} {c : Code} {Z : State → Prop} {pc k : Nat} {i : Instr} {L : am_V} {S T : List Value} {h : am_H} {H : Heap} {locs : List Loc} {ls : Array Slot} {c0 s0 : Nat} {M : am_M} {Q : am_O → am_H → Prop}
theorem am_Pc_blind {a : List Value} {kc ks : Nat} : FrameBlind (am_Pc dC dI dA ad B0 H0 φ T0 a h kc ks) := by
  intro ar U g mk hP
  obtain ⟨h1, h2, h3, h4, h5, h6⟩ := hP
  exact ⟨h1, h2, am_K.same (s := U) (U := U.calling g mk ar) rfl h3, am_E.moved (u := U) (U := U.calling g mk ar) (State.WarmedH.refl U).alike h4, h5, h6⟩
theorem am_call_ok (X : am_X dC dI dA ad B0 H0 φ T0 m nL cc p l R s mi args meth c) (hM : am_eM dC dI dA ad B0 H0 φ T0 l R M) (hQ : am_eL dC dI dA B0 H0 φ T0 p l e R s mi args below meth c Z Q) {m' len : Nat} {a : List Value} {ig : Instr} (hd : decode cc pc = .ok (ig, len)) (hT : am_wt T)
    (hI : am_Inv p l e R s mi args below meth c H (am_y m') (F0 mi pc ls (S.map (am_fv φ))) (a.map (am_fv φ)) (T.map (am_fv φ)))
    (q : M m' a h (am_kt (am_hs m) Q pc len L T (am_PP dC dI dA B0 H0 φ T0 nL p l e R s mi args below meth c Z)))
    (hJ : am_J dC dI dA B0 H0 φ T0 h H) (hlo : ∀ q ∈ locs, B0 ≤ q.base) (hl : lv_has ls nL (am_as φ 0 L)) (hL : L.length ≤ nL) : W p l e R s mi args below meth c H locs c0 s0 Z (F0 mi pc ls (S.map (am_fv φ))) := by
  obtain ⟨hm, fr, lo, hfr, hlo2, hmet⟩ := hM _ _ _ _ q
  obtain ⟨⟨hx, hb, hts, hown, htr, hlk, hml, hrt, hex⟩, ⟨hK, hE, hS0, F⟩, hchk, hR1, hR2, hR3, hR4⟩ := X
  have hmok := am_mokAll m' hm
  have hsz := hJ.size F
  refine am_Wex fun g1 g2 => am_Wtot fun g3 g4 => ?_
  have hcap1 : H.size ≤ B0 + 601024 := by
    have := hJ.2.2.2.1
    simp only [am_capC] at this
    omega
  have hcap2 : am_tot H ≤ T0 + 7293034 := by
    have := hJ.2.2.2.2.1
    have := hJ.2.2.1
    simp only [am_capS] at *
    omega
  obtain ⟨kc, hkc⟩ : ∃ kc, H.size + kc = B0 + 601024 := ⟨B0 + 601024 - H.size, by omega⟩
  obtain ⟨ks, hks⟩ : ∃ ks, am_tot H + ks = T0 + 7293034 := ⟨T0 + 7293034 - am_tot H, by omega⟩
  have hmL := am_mL_le m'
  have hws : ∀ w ∈ (am_cdw (am_y m') (am_by m') (am_mL m') (am_rt m') (am_hh m') :: lw_all), ∀ (a' : Array Value) (U : State), s.WarmedH U.vm → w.before a' U = true := by
    refine pay_in hts (fun w hw => ?_)
    have hw2 : w ∈ lw_all := by
      rcases List.mem_cons.mp hw with rfl | hw
      · exact hmok.1
      · exact hw
    exact ⟨hw2, good_of_word (List.mem_filter.mp hw2).2⟩
  refine am_callW (mc := kc) (ms := ks) (free := fun q => B0 ≤ q) hI (hmet kc ks) am_Pc_blind rfl rfl hfr (by show 8 + (am_mL m' + 11) + lo ≤ R.locals; omega) hws List.mem_cons_self (hts _ hmok.2.1) rfl (hl.1.trans hml.symm) (by rw [hb]; exact hd) ?_ (by omega) (by omega) ?_ ?_ ?_
  · show 2 * 0 + _ ≤ 8
    have := am_wt_fv (φ := φ) hT
    omega
  · intro U hU hW
    exact ⟨rfl, by rw [hU]; exact hJ, hK.moved hW, hE.moved hW.alike, by rw [hU]; exact hkc, by rw [hU]; exact hks⟩
  · intro v st t locs' hst hq hlo' hW
    obtain ⟨o', h', hk', hJ', hom⟩ := hq
    have hlo'' : ∀ q ∈ locs', B0 ≤ q.base := fun q hq => (hlo' q hq).elim (fun z => hlo q z) (fun z => z)
    cases o' with
    | inl v' =>
      have hv : v = v'.map (am_fv φ) := hom
      subst hv
      cases v' with
      | none => exact hk' t.heap locs' ls _ _ hJ' hlo'' hl hL
      | some v' => exact hk' t.heap locs' ls _ _ hJ' hlo'' hl hL
    | inr x => exact hom.elim
  · intro y st t U locs' hst hq hlo' hW hU XU
    obtain ⟨o', h', hk', hJ', hom⟩ := hq
    have hlo'' : ∀ q ∈ locs', B0 ≤ q.base := fun q hq => (hlo' q hq).elim (fun z => hlo q z) (fun z => z)
    cases o' with
    | inl v' => exact hom.elim
    | inr x =>
      obtain ⟨rfl, hexc, fs, hfs⟩ := hom
      dsimp only [am_kt] at hk'
      split at hk'
      · rename_i hall
        refine hQ x h' U locs' _ _ _ hk' (by rw [hU]; exact hJ') hexc ⟨fs, hfs⟩ XU rfl rfl rfl ?_ hlo''
        intro z hz
        have hz2 : (z.startPc, z.endPc, z.handlerPc, z.catchType) ∈ am_hh m := by rw [← hex]; exact List.mem_map.mpr ⟨z, hz, rfl⟩
        obtain ⟨w, hw, hw2⟩ := List.mem_map.mp hz2
        have h3 := List.all_eq_true.mp hall w hw
        simp only [am_hraw, Prod.mk.injEq] at hw2
        simp only [hw2.1, hw2.2.1] at h3
        have h4 : pc < z.startPc ∨ z.endPc ≤ pc := by simpa using h3
        show covers z pc = false
        simp [covers]
        omega
      · split at hk'
        · rename_i hpc hfd
          obtain ⟨⟨cell, q1, q2, q3, q3', q3n, q4⟩, -⟩ := hJ'.1.2.2.2 _ _ (hJ'.at F rfl hfs)
          have hx28 : x.2 < 28 := by simp [am_exc] at hexc; omega
          obtain ⟨r, hr, -⟩ := am_cl_some hx28
          obtain ⟨-, hfc, kC, hkC, hkind⟩ := hK.1 _ _ hr
          have hall : ∀ w ∈ am_hs m, w.2.2.2.1 ≠ 0 ∧ s.vm.ClassLinks e.platform mi.cls w.2.2.2.1 (dC w.2.2.2.2) ∧ s.vm.assignable (dC x.2) (dC w.2.2.2.2) = decide (w.2.2.2.2 = x.2) := by
            intro w hw
            obtain ⟨w1, w2, w3⟩ := am_hs_ok m w hw
            have hw28 : w.2.2.2.2 < 28 := by simp [am_exc] at w3; omega
            obtain ⟨rw', hrw, -⟩ := am_cl_some hw28
            have hl2 := hts _ (am_kl_ok _ w1)
            simp only [am_kn_cn hw28] at hl2
            obtain ⟨cz, z1, z2⟩ := Cond.classLink_spec hown hl2 e.platform (by rw [XU.admits.platform])
            obtain ⟨-, hfc2, -⟩ := hK.1 _ _ hrw
            rw [am_cn_of hrw] at z1
            cases Option.some.inj (z1.symm.trans hfc2)
            exact ⟨w2, z2, hK.2.2.2.2.2.2.2.2.2.1 _ _ hexc w3⟩
          obtain ⟨vm', XV, hst2⟩ := am_caught (dC := dC) (ci := x.2) (hpc := hpc) (hs := am_hs m) XU (g := { F0 mi pc ls (S.map (am_fv φ)) with stack := T.map (am_fv φ) }) rfl (by rw [hU]; exact q1) q2 q3' ⟨kC, hkC⟩ hex hall hfd
          obtain ⟨t', a1, b1⟩ := hk' U.heap locs' ls _ _ (by rw [hU]; exact hJ') hlo'' hl hL (U.setVm vm') rfl XV
          exact ⟨t', hst2 _ a1, b1⟩
        · exact hk'.elim
end SN4
