/-! ONE RULE A KIND OF INSTRUCTION, 2: locals, calls, what is made, ends -/
set_option maxRecDepth 100000
def cF (D : sS) (b j : Nat) (K : Nat → Prop) : Prop := match gO D b with
  | some (.inr q) => am_imp j q.1 = true ∧ K q.1
  | _ => False
section RV
variable {m d : Nat} {Q : am_O → am_H → Prop} {pc k : Nat} {i : Instr} {L : am_V} {S T : List Value} {h : am_H} {D D' : sS} {q n a b κ : Nat}
theorem r_in {P : Prop} (hc : (am_cd m).lookup pc = some (k, i)) (h1 : aw_in m (AC d) Q pc k i L S h (XW m d Q) = P) (h2 : aw_oth pc i L S h (XW m d Q) = False) : XW m d Q pc L S h ↔ P := XW.ofI hc (by rw [h1]) (by rw [h2]; exact fun z => z)
theorem r_st1 {x : Int32} {L' : am_V} (hc : (am_cd m).lookup pc = some (k, i)) (h1 : aw_in m (AC d) Q pc k i L (.int x :: T) h (XW m d Q) = (n < L.length ∧ XW m d Q (pc + am_len i) (am_s1 L n (.int x)) T h)) (h2 : aw_oth pc i L (.int x :: T) h (XW m d Q) = False) (hn : n < L.length) (hL : am_s1 L n (.int x) = L') (hl : am_len i = κ) : XW m d Q pc L (.int x :: T) h ↔ XW m d Q (pc + κ) L' T h := by
  subst hL hl
  rw [r_in hc h1 h2]
  exact ⟨fun z => z.2, fun z => ⟨hn, z⟩⟩
theorem r_stR1 {v : Value} {L' : am_V} (hc : (am_cd m).lookup pc = some (k, i)) (h1 : aw_in m (AC d) Q pc k i L (v :: T) h (XW m d Q) = (am_isR v = true ∧ n < L.length ∧ XW m d Q (pc + am_len i) (am_s1 L n v) T h)) (h2 : aw_oth pc i L (v :: T) h (XW m d Q) = False) (hn : n < L.length) (hL : am_s1 L n v = L') (hl : am_len i = κ) : XW m d Q pc L (v :: T) h ↔ am_isR v = true ∧ XW m d Q (pc + κ) L' T h := by
  subst hL hl
  rw [r_in hc h1 h2]
  exact ⟨fun z => ⟨z.1, z.2.2⟩, fun z => ⟨z.1, hn, z.2⟩⟩
theorem r_st2 {v : Value} {L' : am_V} (hc : (am_cd m).lookup pc = some (k, i)) (h1 : aw_in m (AC d) Q pc k i L (v :: T) h (XW m d Q) = (n + 1 < L.length ∧ XW m d Q (pc + am_len i) (am_s2 L n v) T h)) (h2 : aw_oth pc i L (v :: T) h (XW m d Q) = False) (hn : n + 1 < L.length) (hL : am_s2 L n v = L') (hl : am_len i = κ) : XW m d Q pc L (v :: T) h ↔ XW m d Q (pc + κ) L' T h := by
  subst hL hl
  rw [r_in hc h1 h2]
  exact ⟨fun z => z.2, fun z => ⟨hn, z⟩⟩
theorem r_inc {j : Int} {x y : Int32} {L' : am_V} (hc : (am_cd m).lookup pc = some (k, .iinc n j)) (hv : am_ld L n = some (.int x)) (hn : n < L.length) (hy : x + Int32.ofInt j = y) (hL : am_s1 L n (.int y) = L') : XW m d Q pc L S h ↔ XW m d Q (pc + 3) L' S h := by
  subst hL hy
  refine XW.ofI hc ?_ (fun z => z)
  unfold aw_in
  dsimp only
  rw [hv]
  exact ⟨fun z => z.2, fun z => ⟨hn, z⟩⟩
theorem r_new {c n : Nat} {fs : List Value} (hc : (am_cd m).lookup pc = some (k, .new c)) (he : am_exc c = false) (hn : am_nf c = n) (hf : am_blank c = fs) : XW m d Q pc L S (toH D) ↔ capok D n ∧ XW m d Q (pc + 3) L (.ref (82 + gN D) :: S) (toH (sN D (.inr (c, fs)) n)) := by
  subst hn hf
  refine XW.ofI hc ?_ (fun z => z)
  unfold aw_in
  dsimp only
  rw [he, if_neg (by decide), toH_nw]
  exact ⟨fun z => ⟨⟨z.1, z.2.1⟩, z.2.2⟩, fun z => ⟨z.1.1, z.1.2, z.2⟩⟩
theorem r_exc {c : Nat} (hc : (am_cd m).lookup pc = some (k, .new c)) (he : am_exc c = true) (hn : am_nf c = 6) (hh : am_hs m = []) : XW m d Q pc L [] (toH D) ↔ capok D 6 ∧ Q (.inr (82 + gN D, c)) (toH (sN D (.inr (c, [])) 6)) := by
  refine XW.ofI hc ?_ (fun z => z)
  unfold aw_in
  dsimp only
  rw [he, if_pos rfl, hn, toH_nw]
  exact ⟨fun z => ⟨⟨z.1, z.2.1⟩, z.2.2.2.2⟩, fun z => ⟨z.1.1, z.1.2, rfl, hh, z.2⟩⟩
theorem r_newa {t : ArrayType} {x : Int32} (hc : (am_cd m).lookup pc = some (k, .newarray t)) (ht : am_ak t = κ) (hk : κ < 5) (hn : ¬ x < 0) (hx : x.toNatClampNeg = n) (hm : n ≤ 10000) : XW m d Q pc L (.int x :: T) (toH D) ↔ capok D n ∧ XW m d Q (pc + 2) L (.ref (82 + gN D) :: T) (toH (sN D (.inl (κ, n, fun _ => defaultValue (newarray.typeOf t))) n)) := by
  subst ht hx
  refine XW.ofI hc ?_ (fun z => z)
  unfold aw_in
  dsimp only
  rw [toH_nw]
  exact ⟨fun z => ⟨⟨z.2.2.2.1, z.2.2.2.2.1⟩, z.2.2.2.2.2⟩, fun z => ⟨hk, hn, hm, z.1.1, z.1.2, z.2⟩⟩
theorem r_anew {x : Int32} (hc : (am_cd m).lookup pc = some (k, .anewarray κ)) (hk : 5 ≤ κ ∧ κ < 11) (hn : ¬ x < 0) (hx : x.toNatClampNeg = n) (hm : n ≤ 10000) : XW m d Q pc L (.int x :: T) (toH D) ↔ capok D n ∧ XW m d Q (pc + 3) L (.ref (82 + gN D) :: T) (toH (sN D (.inl (κ, n, fun _ => .null)) n)) := by
  subst hx
  refine XW.ofI hc ?_ (fun z => z)
  unfold aw_in
  dsimp only
  rw [toH_nw]
  exact ⟨fun z => ⟨⟨z.2.2.2.1, z.2.2.2.2.1⟩, z.2.2.2.2.2⟩, fun z => ⟨hk, hn, hm, z.1.1, z.1.2, z.2⟩⟩
theorem r_iret {x : Int32} (hc : (am_cd m).lookup pc = some (k, .ireturn)) (hr : am_rr m = some .int) : XW m d Q pc L [.int x] h ↔ Q (.inl (some (.int x))) h := by
  refine XW.ofI hc ?_ (fun z => z)
  unfold aw_in
  dsimp only
  rw [hr]
  exact ⟨fun z => z.2, fun z => ⟨rfl, z⟩⟩
theorem r_zret {x : Int32} {ty : FieldType} (hc : (am_cd m).lookup pc = some (k, .ireturn)) (hr : am_rr m = some ty) : XW m d Q pc L [.int x] h ↔ narrow ty (.int x) = .int x ∧ Q (.inl (some (.int x))) h := by
  refine XW.ofI hc ?_ (fun z => z)
  unfold aw_in
  dsimp only
  rw [hr]
theorem r_dret {x : UInt64} (hc : (am_cd m).lookup pc = some (k, .dreturn)) (hr : am_rr m = some .double) : XW m d Q pc L [.double x] h ↔ Q (.inl (some (.double x))) h := by
  refine XW.ofI hc ?_ (fun z => z)
  unfold aw_in
  dsimp only
  rw [hr]
theorem r_aret {v : Value} {ty : FieldType} (hc : (am_cd m).lookup pc = some (k, .areturn)) (hr : am_rr m = some ty) (hi : ty.isReference = true) : XW m d Q pc L [v] h ↔ am_isR v = true ∧ Q (.inl (some v)) h := by
  refine XW.ofI hc ?_ (fun z => z)
  unfold aw_in
  dsimp only
  rw [hr]
  exact ⟨fun z => ⟨z.1, z.2.2⟩, fun z => ⟨z.1, hi, z.2⟩⟩
theorem r_vret (hc : (am_cd m).lookup pc = some (k, .return_)) (hr : am_rr m = none) : XW m d Q pc L [] h ↔ Q (.inl none) h := by
  refine XW.ofI hc ?_ (fun z => z)
  unfold aw_in
  dsimp only
  exact ⟨fun z => z.2.2, fun z => ⟨hr, rfl, z⟩⟩
theorem r_cs {m' : Nat} {as : List Value} (hc : (am_cd m).lookup pc = some (k, .invokestatic m')) (h9 : m' ≠ 9996) (hn : am_np m' = n) (h1 : n ≤ S.length) (h2 : am_wt (S.drop n)) (e1 : (S.take n).reverse = as) (e2 : S.drop n = T) : XW m d Q pc L S h ↔ AC d m' as h (KT m d Q pc 3 L T) := by
  subst hn e1 e2
  refine XW.ofI hc ?_ (fun z => z)
  unfold aw_in
  dsimp only
  rw [if_neg h9]
  exact ⟨fun z => z.2.2, fun z => ⟨h1, h2, z⟩⟩
theorem r_ci {m' : Nat} {as : List Value} (hc : (am_cd m).lookup pc = some (k, .invokespecial m')) (h9 : m' ≠ 9999) (h7 : m' ≠ 9997) (hn : am_np m' = n) (e2 : S.drop n = .ref b :: T) (h1 : n < S.length) (h2 : am_wt T) (e1 : .ref b :: (S.take n).reverse = as) : XW m d Q pc L S h ↔ AC d m' as h (KT m d Q pc 3 L T) := by
  subst hn e1
  refine XW.ofI hc ?_ (fun z => z)
  unfold aw_in
  dsimp only
  rw [if_neg h9, if_neg h7]
  unfold am_ci
  rw [e2]
  exact ⟨fun z => z.2.2, fun z => ⟨h1, h2, z⟩⟩
theorem r_cv {m' ow : Nat} {as fs : List Value} (hc : (am_cd m).lookup pc = some (k, .invokevirtual m')) (h9 : m' ≠ 9998) (hn : am_np m' = n) (ho : am_ow m' = ow) (e2 : S.drop n = .ref b :: T) (h1 : n < S.length) (h2 : am_wt T) (e1 : .ref b :: (S.take n).reverse = as) (hr : h.1 b = some (.inr (ow, fs))) : XW m d Q pc L S h ↔ AC d m' as h (KT m d Q pc 3 L T) := by
  subst hn e1 ho
  refine XW.ofI hc ?_ (fun z => z)
  unfold aw_in
  dsimp only
  rw [if_neg h9]
  unfold am_cv
  rw [e2]
  exact ⟨fun z => z.2.2.2, fun z => ⟨h1, h2, ⟨fs, hr⟩, z⟩⟩
theorem r_co {m' ow : Nat} {as : List Value} (hc : (am_cd m).lookup pc = some (k, .invokevirtual m')) (h9 : m' ≠ 9998) (hn : am_np m' = n) (ho : am_ow m' = ow) (e2 : S.drop n = .ref b :: T) (h1 : n < S.length) (h2 : am_wt T) (e1 : .ref b :: (S.take n).reverse = as) (o1 : ow ≠ 1) (o4 : ow ≠ 4) (o28 : ow < 28) : XW m d Q pc L S (toH D) ↔ cO D b ow ∧ AC d m' as (toH D) (KT m d Q pc 3 L T) := by
  subst hn e1 ho
  refine XW.ofI hc ?_ (fun z => z)
  unfold aw_in
  dsimp only
  rw [if_neg h9]
  unfold am_cv
  rw [e2]
  refine ⟨fun z => ⟨?_, z.2.2.2⟩, fun z => ⟨h1, h2, ?_, z.2⟩⟩
  · obtain ⟨fs, hfs⟩ := z.2.2.1
    unfold cO
    rw [toH_o hfs o1 o4 (by omega)]
  · have z1 := z.1
    unfold cO at z1
    split at z1
    · rename_i w hw
      obtain ⟨c1, fs⟩ := w
      have z1 : c1 = am_ow m' := z1
      subst z1
      exact ⟨fs, toH_g hw⟩
    · exact z1.elim
theorem r_cf {j cnt : Nat} {as : List Value} (hc : (am_cd m).lookup pc = some (k, .invokeinterface j cnt)) (hn : am_ni j = n) (e2 : S.drop n = .ref b :: T) (h1 : n < S.length) (h2 : am_wt T) (e1 : .ref b :: (S.take n).reverse = as) : XW m d Q pc L S (toH D) ↔ cF D b j (fun ci => AC d (am_dp j ci) as (toH D) (KT m d Q pc 5 L T)) := by
  subst hn e1
  refine XW.ofI hc ?_ (fun z => z)
  unfold aw_in
  dsimp only
  unfold am_cf
  rw [e2]
  refine ⟨fun z => ?_, fun z => ?_⟩
  · obtain ⟨-, -, ci, fs, g1, g2, g3⟩ := z
    have hci : ci ≠ 1 ∧ ci ≠ 4 ∧ ci < 28 := by
      simp only [am_imp, am_into] at g2
      split at g2 <;> simp at g2 <;> omega
    unfold cF
    rw [toH_o g1 hci.1 hci.2.1 (by omega)]
    exact ⟨g2, g3⟩
  · unfold cF at z
    split at z
    · rename_i w hw
      obtain ⟨c1, fs⟩ := w
      exact ⟨h1, h2, c1, fs, toH_g hw, z⟩
    · exact z.elim
theorem r_ord (hc : (am_cd m).lookup pc = some (k, .invokevirtual 9998)) (hT : am_wt T) : XW m d Q pc L (.ref a :: T) h ↔ (if k = 171 then a < 6 else 6 ≤ a ∧ a < 24) ∧ XW m d Q (pc + 3) L (.int (Int32.ofNat (if k = 171 then a else a - 6)) :: T) h := by
  refine XW.ofI hc ?_ (fun z => z)
  unfold aw_in
  dsimp only
  rw [if_pos rfl]
  exact ⟨fun z => ⟨z.1, z.2.2⟩, fun z => ⟨z.1, hT, z.2⟩⟩
theorem r_min {x y : Int32} (hc : (am_cd m).lookup pc = some (k, .invokestatic 9996)) (hT : am_wt T) : XW m d Q pc L (.int y :: .int x :: T) h ↔ XW m d Q (pc + 3) L (.int (if y < x then y else x) :: T) h := by
  refine XW.ofI hc ?_ (fun z => z)
  unfold aw_in
  dsimp only
  rw [if_pos rfl]
  exact ⟨fun z => z.2, fun z => ⟨hT, z⟩⟩
theorem r_obj (hc : (am_cd m).lookup pc = some (k, .invokespecial 9999)) (hT : am_wt T) : XW m d Q pc L (.ref a :: T) h ↔ XW m d Q (pc + 3) L T h := by
  refine XW.ofI hc ?_ (fun z => z)
  unfold aw_in
  dsimp only
  rw [if_pos rfl]
  exact ⟨fun z => z.2, fun z => ⟨hT, z⟩⟩
theorem KT_ret {len : Nat} {v : Value} : KT m d Q pc len L T (.inl (some v)) h = XW m d Q (pc + len) L (v :: T) h := rfl
theorem KT_void {len : Nat} : KT m d Q pc len L T (.inl none) h = XW m d Q (pc + len) L T h := rfl
theorem KT_thr {len : Nat} {x : Nat × Nat} (hh : am_hs m = []) : KT m d Q pc len L T (.inr x) h = Q (.inr x) h := by
  unfold KT am_kt
  rw [hh]
  rfl
theorem XP_ap {v : Value} : XP m d Q pc L T h v = XW m d Q pc L (v :: T) h := rfl
/-- arrays that are no desk's -/
theorem toH_f (ha : isRec a = false) : (toH D).1 a = gO D a := by
  show (if isRec a = true then tC D a else gG D a) = gO D a
  unfold gO
  rw [ha]
  rfl
theorem r_ldIO {j : Int32} (hc : (am_cd m).lookup pc = some (k, .iaload)) (ha : isRec a = false) : XW m d Q pc L (.int j :: .ref a :: T) (toH D) ↔ rO D a 1 j (XP m d Q (pc + 1) L T (toH D)) := by
  refine XW.ofI hc ?_ (fun z => z)
  unfold aw_in am_rI rO
  dsimp only
  rw [toH_f ha]
  cases hz : gO D a with
  | none => simp
  | some x =>
    cases x with
    | inr w => simp
    | inl w =>
      obtain ⟨κ, n, f⟩ := w
      constructor
      · rintro ⟨n', f', g1, g3, g4⟩
        cases g1
        exact ⟨rfl, g3, g4⟩
      · rintro ⟨g1, g2, g3⟩
        have g1 : κ = 1 := g1
        subst g1
        exact ⟨n, f, rfl, g2, g3⟩
def rR (D : sS) (a : Nat) (j : Int32) (K : Value → Prop) : Prop := match gO D a with
  | some (.inl q) => (5 ≤ q.1 ∧ q.1 < 11) ∧ vp_in j q.2.1 ∧ K (q.2.2 j.toNatClampNeg)
  | _ => False
def wR (D : sS) (a : Nat) (j : Int32) (v : Value) (K : sS → Prop) : Prop := match gO D a with
  | some (.inl q) => (5 ≤ q.1 ∧ q.1 < 11) ∧ kO D q.1 v ∧ vp_in j q.2.1 ∧ K (sG D a (.inl (q.1, q.2.1, updV q.2.2 j.toNatClampNeg v)))
  | _ => False
theorem r_ldRO {j : Int32} (hc : (am_cd m).lookup pc = some (k, .aaload)) (ha : isRec a = false) : XW m d Q pc L (.int j :: .ref a :: T) (toH D) ↔ rR D a j (XP m d Q (pc + 1) L T (toH D)) := by
  refine XW.ofI hc ?_ (fun z => z)
  unfold aw_in am_rR rR
  dsimp only
  rw [toH_f ha]
  cases hz : gO D a with
  | none => simp
  | some x =>
    cases x with
    | inr w => simp
    | inl w =>
      obtain ⟨κ, n, f⟩ := w
      constructor
      · rintro ⟨κ', n', f', g1, g2⟩
        cases g1
        exact g2
      · intro g
        exact ⟨κ, n, f, rfl, g⟩
theorem r_stRO {j : Int32} {v : Value} (hc : (am_cd m).lookup pc = some (k, .aastore)) (ha : isRec a = false) : XW m d Q pc L (v :: .int j :: .ref a :: T) (toH D) ↔ wR D a j v (fun D' => XW m d Q (pc + 1) L T (toH D')) := by
  refine XW.ofI hc ?_ (fun z => z)
  unfold aw_in am_wR wR
  dsimp only
  rw [toH_f ha]
  cases hz : gO D a with
  | none => simp
  | some x =>
    cases x with
    | inr w => simp
    | inl w =>
      obtain ⟨κ, n, f⟩ := w
      constructor
      · rintro ⟨κ', n', f', g1, g2, g3, g4, g5⟩
        cases g1
        rw [toH_up hz] at g5
        exact ⟨g2, g3, g4, g5⟩
      · rintro ⟨g2, g3, g4, g5⟩
        refine ⟨κ, n, f, rfl, g2, g3, g4, ?_⟩
        rw [toH_up hz]
        exact g5
theorem r_stIO {j x : Int32} (hc : (am_cd m).lookup pc = some (k, .iastore)) (ha : isRec a = false) : XW m d Q pc L (.int x :: .int j :: .ref a :: T) (toH D) ↔ wO D a 1 j (.int x) (fun D' => XW m d Q (pc + 1) L T (toH D')) := by
  refine XW.ofI hc ?_ (fun z => z)
  unfold aw_in am_wA wO
  dsimp only
  rw [toH_f ha]
  cases hz : gO D a with
  | none => simp
  | some x =>
    cases x with
    | inr w => simp
    | inl w =>
      obtain ⟨κ, n, f⟩ := w
      constructor
      · rintro ⟨n', f', g1, g2, g3, g4⟩
        cases g1
        rw [toH_up hz] at g4
        exact ⟨rfl, g3, g4⟩
      · rintro ⟨g2, g3, g4⟩
        have g2 : κ = 1 := g2
        subst g2
        refine ⟨n, f, rfl, rfl, g3, ?_⟩
        rw [toH_up hz]
        exact g4
end RV
