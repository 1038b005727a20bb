/-! THE CONSTRUCTORS: a heap given by the list of what was made -/
set_option maxRecDepth 100000
def hh (N : Nat) (xs : Nat → Int32) (cs : List am_C) (sl : Nat) : am_H := (fun a => if a < 6 then some (.inr (30, [.int (Int32.ofNat a)])) else if a < 24 then some (.inr (31, [.int (Int32.ofNat (a - 6))])) else if a = 24 then some (.inl (20, N, fun j => .int (xs j))) else cs[a - 25]?, 25 + cs.length, sl)
section CT
variable {m d : Nat} {Q : am_O → am_H → Prop} {pc k : Nat} {i : Instr} {L : am_V} {S T : List Value} {N : Nat} {xs : Nat → Int32} {cs cs' : List am_C} {sl sl' : Nat} {a n c j q : Nat} {fs fs' : List Value} {v : Value}
theorem hh_nw {x : am_C} : am_nw (hh N xs cs sl) x n = hh N xs (cs ++ [x]) (sl + n) := by
  refine Prod.ext (funext fun b => ?_) (Prod.ext (by show 25 + cs.length + 1 = 25 + (cs ++ [x]).length; simp; omega) rfl)
  show (if b = 25 + cs.length then some x else (hh N xs cs sl).1 b) = (hh N xs (cs ++ [x]) (sl + n)).1 b
  unfold hh
  dsimp only
  by_cases h6 : b < 6
  · rw [if_neg (by omega), if_pos h6, if_pos h6]
  by_cases h24 : b < 24
  · rw [if_neg (by omega), if_neg h6, if_pos h24, if_neg h6, if_pos h24]
  by_cases h25 : b = 24
  · rw [if_neg (by omega), if_neg h6, if_neg h24, if_pos h25, if_neg h6, if_neg h24, if_pos h25]
  rw [if_neg h6, if_neg h24, if_neg h25, if_neg h6, if_neg h24, if_neg h25]
  by_cases h : b = 25 + cs.length
  · rw [if_pos h, h]; simp
  · rw [if_neg h]
    by_cases hl : b - 25 < cs.length
    · rw [List.getElem?_append_left hl]
    · rw [List.getElem?_eq_none (by omega), List.getElem?_eq_none (by simp; omega)]
theorem hh_up {x : am_C} (hk : k < cs.length) : am_up (hh N xs cs sl) (25 + k) x = hh N xs (cs.set k x) sl := by
  refine Prod.ext (funext fun b => ?_) (Prod.ext (by show 25 + cs.length = 25 + (cs.set k x).length; simp) rfl)
  show (if b = 25 + k then some x else (hh N xs cs sl).1 b) = (hh N xs (cs.set k x) sl).1 b
  unfold hh
  dsimp only
  by_cases h6 : b < 6
  · rw [if_neg (by omega), if_pos h6, if_pos h6]
  by_cases h24 : b < 24
  · rw [if_neg (by omega), if_neg h6, if_pos h24, if_neg h6, if_pos h24]
  by_cases h25 : b = 24
  · rw [if_neg (by omega), if_neg h6, if_neg h24, if_pos h25, if_neg h6, if_neg h24, if_pos h25]
  rw [if_neg h6, if_neg h24, if_neg h25, if_neg h6, if_neg h24, if_neg h25, List.getElem?_set]
  by_cases h : b = 25 + k
  · rw [if_pos h, if_pos (by omega), if_pos (by omega)]
  · rw [if_neg h, if_neg (by omega)]
theorem hh_at {x : am_C} (hk : cs[k]? = some x) : (hh N xs cs sl).1 (25 + k) = some x := by
  unfold hh
  dsimp only
  rw [if_neg (by omega), if_neg (by omega), if_neg (by omega), Nat.add_sub_cancel_left]
  exact hk
theorem g_new (hc : (am_cd m).lookup pc = some (k, .new c)) (he : am_exc c = false) (hn : am_nf c = n) (hf : am_blank c = fs) (h1 : 25 + cs.length < am_capC) (h2 : sl + n ≤ am_capS) (ha : 25 + cs.length = a) (hs : sl + n = sl') (hcs : cs ++ [.inr (c, fs)] = cs') (z : XW m d Q (pc + 3) L (.ref a :: S) (hh N xs cs' sl')) : XW m d Q pc L S (hh N xs cs sl) := by
  subst hn hf ha hcs hs
  rw [XW.iff hc]
  refine Or.inl ?_
  unfold aw_in
  dsimp only
  refine ⟨h1, h2, ?_⟩
  rw [he, if_neg (by decide), hh_nw]
  exact z
theorem g_newa {t : ArrayType} {x : Int32} {κ : Nat} (hc : (am_cd m).lookup pc = some (k, .newarray t)) (ht : am_ak t = κ) (hk : κ < 5) (hn : ¬ x < 0) (hx : x.toNatClampNeg = n) (hm : n ≤ 10000) (h1 : 25 + cs.length < am_capC) (h2 : sl + n ≤ am_capS) (ha : 25 + cs.length = a) (hs : sl + n = sl') (hcs : cs ++ [.inl (κ, n, fun _ => defaultValue (newarray.typeOf t))] = cs') (z : XW m d Q (pc + 2) L (.ref a :: T) (hh N xs cs' sl')) : XW m d Q pc L (.int x :: T) (hh N xs cs sl) := by
  subst ht hx ha hcs hs
  rw [XW.iff hc]
  refine Or.inl ?_
  unfold aw_in
  dsimp only
  refine ⟨hk, hn, hm, h1, h2, ?_⟩
  rw [hh_nw]
  exact z
theorem g_anew {x : Int32} {κ : Nat} (hc : (am_cd m).lookup pc = some (k, .anewarray κ)) (hk : 5 ≤ κ ∧ κ < 11) (hn : ¬ x < 0) (hx : x.toNatClampNeg = n) (hm : n ≤ 10000) (h1 : 25 + cs.length < am_capC) (h2 : sl + n ≤ am_capS) (ha : 25 + cs.length = a) (hs : sl + n = sl') (hcs : cs ++ [.inl (κ, n, fun _ => .null)] = cs') (z : XW m d Q (pc + 3) L (.ref a :: T) (hh N xs cs' sl')) : XW m d Q pc L (.int x :: T) (hh N xs cs sl) := by
  subst hx ha hcs hs
  rw [XW.iff hc]
  refine Or.inl ?_
  unfold aw_in
  dsimp only
  refine ⟨hk, hn, hm, h1, h2, ?_⟩
  rw [hh_nw]
  exact z
theorem g_put (hc : (am_cd m).lookup pc = some (k, .putfield q)) (p : Nat) (hp : cs[p]? = some (.inr (c, fs))) (hq : q / 128 = c) (hj : q % 128 = j) (hl : fs.length = am_nf c) (hlt : j < fs.length) (hfit : am_fit (am_fty c j) v) (hcs : cs.set p (.inr (c, fs.set j v)) = cs') (z : XW m d Q (pc + 3) L T (hh N xs cs' sl)) : XW m d Q pc L (v :: .ref (25 + p) :: T) (hh N xs cs sl) := by
  subst hq hj hcs
  rw [XW.iff hc]
  refine Or.inl ?_
  refine ⟨fs, hh_at hp, hl, hlt, hfit, ?_⟩
  rw [hh_up (List.getElem?_eq_some_iff.mp hp).1]
  exact z
theorem g_ci {m' b : Nat} {as : List Value} {h : am_H} (hc : (am_cd m).lookup pc = some (k, .invokespecial m')) (h9 : m' ≠ 9999) (h7 : m' ≠ 9997) (hn : am_np m' = n) (e2 : S.drop n = .ref b :: T) (h1 : n < S.length) (h2 : am_wt T) (e1 : .ref b :: (S.take n).reverse = as) (z : AC d m' as h (KT m d Q pc 3 L T)) : XW m d Q pc L S h := (r_ci hc h9 h7 hn e2 h1 h2 e1).mpr z
end CT
