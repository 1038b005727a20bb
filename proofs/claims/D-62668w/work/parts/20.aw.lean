/-! THE SMALL MACHINE, 12: one instruction (aw_in), the least predicate closed under it (AW: the walk of a body), calls to a depth (AC). Addresses are the small machine's own: 0..23 the constants of Sort and Op, 24 the script, from 25 on what is made. -/
set_option maxRecDepth 100000
abbrev am_O : Type := Option Value ⊕ (Nat × Nat)
abbrev am_V : Type := List (Option Value)
abbrev am_P : Type := Nat → am_V → List Value → am_H → Prop
abbrev am_M : Type := Nat → List Value → am_H → (am_O → am_H → Prop) → Prop
def am_k (a : Option Value) : Option Value := match a with
  | some (.long _) => none
  | some (.double _) => none
  | a => a
def am_s1 : am_V → Nat → Value → am_V
  | [], _, _ => []
  | _ :: L, 0, v => some v :: L
  | a :: L, 1, v => am_k a :: am_s1 L 0 v
  | a :: L, k + 2, v => a :: am_s1 L (k + 1) v
def am_s2 : am_V → Nat → Value → am_V
  | _ :: _ :: L, 0, v => some v :: none :: L
  | a :: L, 1, v => am_k a :: am_s2 L 0 v
  | a :: L, k + 2, v => a :: am_s2 L (k + 1) v
  | _, _, _ => []
def am_ld (L : am_V) (k : Nat) : Option Value := match L[k]? with
  | some (some v) => some v
  | _ => none
/-- the locals at a method's entry -/
def am_lay : List Value → am_V
  | [] => []
  | v :: r => if v.category = 2 then some v :: none :: am_lay r else some v :: am_lay r
def am_ent (n : Nat) (a : List Value) : am_V := am_lay a ++ List.replicate (n - (am_lay a).length) none
def am_nf (ci : Nat) : Nat := (am_cl[ci]?.map (fun r => r.2.2)).getD 0
def am_capC : Nat := 601000
def am_capS : Nat := 7293000
def am_ak (t : ArrayType) : Nat := match t with
  | .char => 0
  | .int => 1
  | .boolean => 2
  | .long => 3
  | .double => 4
  | _ => 99
/-- the words of a stack -/
def am_wt (T : List Value) : Prop := (T.map fun v => v.category).sum ≤ 8
theorem am_wt4 {T : List Value} (h : T.length ≤ 4) : am_wt T := by
  have key : ∀ l : List Value, (l.map fun v => v.category).sum ≤ 2 * l.length := by
    intro l
    induction l with
    | nil => exact Nat.le_refl _
    | cons v t ih =>
      have : v.category ≤ 2 := by cases v <;> simp [Value.category]
      simp only [List.map_cons, List.sum_cons, List.length_cons]
      omega
  have := key T
  unfold am_wt
  omega
/-- what follows a call -/
def am_kt (hs : List am_Hn) (Q : am_O → am_H → Prop) (pc len : Nat) (L : am_V) (T : List Value) (P : am_P) : am_O → am_H → Prop := fun o h => match o with
  | .inl none => P (pc + len) L T h
  | .inl (some v) => P (pc + len) L (v :: T) h
  | .inr x => if hs.all (fun q => !(decide (q.1 ≤ pc) && decide (pc < q.2.1))) = true then Q (.inr x) h else match am_find pc x.2 hs with
    | some hpc => P hpc L [.ref x.1] h
    | none => False
def am_rA (κ : Nat) (S : List Value) (h : am_H) (P : List Value → Prop) : Prop := match S with
  | .int i :: .ref a :: T => ∃ n f, h.1 a = some (.inl (κ, n, f)) ∧ vp_in i n ∧ P (f i.toNatClampNeg :: T)
  | _ => False
def am_rI (S : List Value) (h : am_H) (P : List Value → Prop) : Prop := match S with
  | .int i :: .ref a :: T => ∃ n f, h.1 a = some (.inl (1, n, f)) ∧ vp_in i n ∧ P (f i.toNatClampNeg :: T)
  | .int i :: .retAddr _ :: T => ∃ n f, h.1 24 = some (.inl (20, n, f)) ∧ vp_in i n ∧ P (f i.toNatClampNeg :: T)
  | _ => False
def am_rR (S : List Value) (h : am_H) (P : List Value → Prop) : Prop := match S with
  | .int i :: .ref a :: T => ∃ κ n f, h.1 a = some (.inl (κ, n, f)) ∧ (5 ≤ κ ∧ κ < 11) ∧ vp_in i n ∧ P (f i.toNatClampNeg :: T)
  | _ => False
/-- a reference, or the script's -/
def am_isR2 : Value → Bool
  | .ref _ => true
  | .null => true
  | .retAddr _ => true
  | _ => false
def am_isI : Value → Bool
  | .int _ => true
  | _ => false
def am_isL : Value → Bool
  | .long _ => true
  | _ => false
def am_isD : Value → Bool
  | .double _ => true
  | _ => false
def am_wA (κ : Nat) (ok : Value → Prop) (S : List Value) (h : am_H) (P : List Value → am_H → Prop) : Prop := match S with
  | v :: .int i :: .ref a :: T => ∃ n f, h.1 a = some (.inl (κ, n, f)) ∧ ok v ∧ vp_in i n ∧ P T (am_up h a (.inl (κ, n, updV f i.toNatClampNeg v)))
  | _ => False
def am_wR (S : List Value) (h : am_H) (P : List Value → am_H → Prop) : Prop := match S with
  | v :: .int i :: .ref a :: T => ∃ κ n f, h.1 a = some (.inl (κ, n, f)) ∧ (5 ≤ κ ∧ κ < 11) ∧ (v = .null ∨ ∃ b cv fs, v = .ref b ∧ h.1 b = some (.inr (cv, fs)) ∧ am_into κ cv = true) ∧ vp_in i n ∧ P T (am_up h a (.inl (κ, n, updV f i.toNatClampNeg v)))
  | _ => False
/-- a call of an object's method: the class of the receiver is ow -/
def am_cv (M : am_M) (m' n ow : Nat) (S : List Value) (h : am_H) (K : List Value → am_O → am_H → Prop) : Prop := match S.drop n with
  | .ref b :: T => n < S.length ∧ am_wt T ∧ (∃ fs, h.1 b = some (.inr (ow, fs))) ∧ M m' (.ref b :: (S.take n).reverse) h (K T)
  | _ => False
def am_ci (M : am_M) (m' n : Nat) (S : List Value) (h : am_H) (K : List Value → am_O → am_H → Prop) : Prop := match S.drop n with
  | .ref b :: T => n < S.length ∧ am_wt T ∧ M m' (.ref b :: (S.take n).reverse) h (K T)
  | _ => False
def am_cs (M : am_M) (m' n : Nat) (S : List Value) (h : am_H) (K : List Value → am_O → am_H → Prop) : Prop :=
  n ≤ S.length ∧ am_wt (S.drop n) ∧ M m' (S.take n).reverse h (K (S.drop n))
def am_cf (M : am_M) (i n : Nat) (S : List Value) (h : am_H) (K : List Value → am_O → am_H → Prop) : Prop := match S.drop n with
  | .ref b :: T => n < S.length ∧ am_wt T ∧ ∃ ci fs, h.1 b = some (.inr (ci, fs)) ∧ am_imp i ci = true ∧ M (am_dp i ci) (.ref b :: (S.take n).reverse) h (K T)
  | _ => False
def am_ni (i : Nat) : Nat := if i = 1 ∨ i = 2 ∨ i = 5 then 2 else 1
def am_rr (m : Nat) : Option FieldType := if m = 221 then some .boolean else am_rt m
def aw_in (m : Nat) (M : am_M) (Q : am_O → am_H → Prop) (pc k : Nat) (i : Instr) (L : am_V) (S : List Value) (h : am_H) (P : am_P) : Prop := match i with
  | .iload_n n | .iload n => (match am_ld L n with
    | some (.int x) => P (pc + am_len i) L (.int x :: S) h
    | _ => False)
  | .lload_n n | .lload n => (match am_ld L n with
    | some (.long x) => P (pc + am_len i) L (.long x :: S) h
    | _ => False)
  | .dload_n n | .dload n => (match am_ld L n with
    | some (.double x) => P (pc + am_len i) L (.double x :: S) h
    | _ => False)
  | .aload_n n | .aload n => (match am_ld L n with
    | some v => am_isR2 v = true ∧ P (pc + am_len i) L (v :: S) h
    | _ => False)
  | .istore_n n | .istore n => (match S with
    | .int x :: T => n < L.length ∧ P (pc + am_len i) (am_s1 L n (.int x)) T h
    | _ => False)
  | .lstore_n n | .lstore n => (match S with
    | .long x :: T => n + 1 < L.length ∧ P (pc + am_len i) (am_s2 L n (.long x)) T h
    | _ => False)
  | .dstore_n n | .dstore n => (match S with
    | .double x :: T => n + 1 < L.length ∧ P (pc + am_len i) (am_s2 L n (.double x)) T h
    | _ => False)
  | .astore_n n | .astore n => (match S with
    | v :: T => am_isR v = true ∧ n < L.length ∧ P (pc + am_len i) (am_s1 L n v) T h
    | _ => False)
  | .iinc n c => (match am_ld L n with
    | some (.int x) => n < L.length ∧ P (pc + am_len i) (am_s1 L n (.int (x + Int32.ofInt c))) S h
    | _ => False)
  | .getfield q => (match S with
    | .ref a :: T => ∃ fs v, h.1 a = some (.inr (q / 128, fs)) ∧ fs.length = am_nf (q / 128) ∧ fs[q % 128]? = some v ∧ P (pc + 3) L (v :: T) h
    | _ => False)
  | .putfield q => (match S with
    | v :: .ref a :: T => ∃ fs, h.1 a = some (.inr (q / 128, fs)) ∧ fs.length = am_nf (q / 128) ∧ q % 128 < fs.length ∧ am_fit (am_fty (q / 128) (q % 128)) v ∧ P (pc + 3) L T (am_up h a (.inr (q / 128, fs.set (q % 128) v)))
    | _ => False)
  | .getstatic c => P (pc + 3) L (.ref c :: S) h
  | .iaload => am_rI S h (fun S' => P (pc + 1) L S' h)
  | .caload => am_rA 0 S h (fun S' => P (pc + 1) L S' h)
  | .baload => am_rA 2 S h (fun S' => P (pc + 1) L S' h)
  | .laload => am_rA 3 S h (fun S' => P (pc + 1) L S' h)
  | .daload => am_rA 4 S h (fun S' => P (pc + 1) L S' h)
  | .aaload => am_rR S h (fun S' => P (pc + 1) L S' h)
  | .iastore => am_wA 1 (fun v => am_isI v = true) S h (P (pc + 1) L)
  | .castore => am_wA 0 (fun v => am_isI v = true ∧ narrow .char v = v) S h (P (pc + 1) L)
  | .bastore => am_wA 2 (fun v => am_isI v = true ∧ narrow .boolean v = v) S h (P (pc + 1) L)
  | .lastore => am_wA 3 (fun v => am_isL v = true) S h (P (pc + 1) L)
  | .dastore => am_wA 4 (fun v => am_isD v = true) S h (P (pc + 1) L)
  | .aastore => am_wR S h (P (pc + 1) L)
  | .arraylength => (match S with
    | .ref a :: T => ∃ κ n f, h.1 a = some (.inl (κ, n, f)) ∧ κ < 11 ∧ P (pc + 1) L (.int n.toInt32 :: T) h
    | .retAddr _ :: T => ∃ n f, h.1 24 = some (.inl (20, n, f)) ∧ P (pc + 1) L (.int n.toInt32 :: T) h
    | _ => False)
  | .newarray t => (match S with
    | .int x :: T => am_ak t < 5 ∧ ¬ x < 0 ∧ x.toNatClampNeg ≤ 10000 ∧ h.2.1 < am_capC ∧ h.2.2 + x.toNatClampNeg ≤ am_capS ∧ P (pc + 2) L (.ref h.2.1 :: T) (am_nw h (.inl (am_ak t, x.toNatClampNeg, fun _ => defaultValue (newarray.typeOf t))) x.toNatClampNeg)
    | _ => False)
  | .anewarray κ => (match S with
    | .int x :: T => (5 ≤ κ ∧ κ < 11) ∧ ¬ x < 0 ∧ x.toNatClampNeg ≤ 10000 ∧ h.2.1 < am_capC ∧ h.2.2 + x.toNatClampNeg ≤ am_capS ∧ P (pc + 3) L (.ref h.2.1 :: T) (am_nw h (.inl (κ, x.toNatClampNeg, fun _ => .null)) x.toNatClampNeg)
    | _ => False)
  | .new c => h.2.1 < am_capC ∧ h.2.2 + am_nf c ≤ am_capS ∧ (if am_exc c = true then S = [] ∧ am_hs m = [] ∧ Q (.inr (h.2.1, c)) (am_nw h (.inr (c, [])) 6) else P (pc + 3) L (.ref h.2.1 :: S) (am_nw h (.inr (c, am_blank c)) (am_nf c)))
  | .checkcast c => (match S with
    | .ref a :: T => (∃ fs, h.1 a = some (.inr (c, fs))) ∧ P (pc + 3) L (.ref a :: T) h
    | _ => False)
  | .instanceof c => (match S with
    | .ref a :: T => ∃ ci fs, h.1 a = some (.inr (ci, fs)) ∧ am_val ci = true ∧ am_val c = true ∧ P (pc + 3) L (.int (if ci = c then 1 else 0) :: T) h
    | _ => False)
  | .ldc c => (match am_kv c with
    | .int v => P (pc + 2) L (.int v :: S) h
    | _ => False)
  | .ldc2_w c => (match am_kv c with
    | .long v => P (pc + 3) L (.long v :: S) h
    | .double v => P (pc + 3) L (.double v :: S) h
    | _ => False)
  | .ireturn => (match S, am_rr m with
    | [.int x], some ty => narrow ty (.int x) = .int x ∧ Q (.inl (some (.int x))) h
    | _, _ => False)
  | .dreturn => (match S, am_rr m with
    | [.double x], some .double => Q (.inl (some (.double x))) h
    | _, _ => False)
  | .areturn => (match S, am_rr m with
    | [v], some ty => am_isR v = true ∧ ty.isReference = true ∧ Q (.inl (some v)) h
    | _, _ => False)
  | .return_ => am_rr m = none ∧ S = [] ∧ Q (.inl none) h
  | .invokevirtual m' => if m' = 9998 then (match S with
      | .ref a :: T => (if k = 171 then a < 6 else 6 ≤ a ∧ a < 24) ∧ am_wt T ∧ P (pc + 3) L (.int (Int32.ofNat (if k = 171 then a else a - 6)) :: T) h
      | _ => False) else am_cv M m' (am_np m') (am_ow m') S h (fun T => am_kt (am_hs m) Q pc 3 L T P)
  | .invokestatic m' => if m' = 9996 then (match S with
      | .int y :: .int x :: T => am_wt T ∧ P (pc + 3) L (.int (if y < x then y else x) :: T) h
      | _ => False) else am_cs M m' (am_np m') S h (fun T => am_kt (am_hs m) Q pc 3 L T P)
  | .invokespecial m' => if m' = 9999 then (match S with
      | .ref _ :: T => am_wt T ∧ P (pc + 3) L T h
      | _ => False) else if m' = 9997 then False else am_ci M m' (am_np m') S h (fun T => am_kt (am_hs m) Q pc 3 L T P)
  | .invokeinterface j _ => am_cf M j (am_ni j) S h (fun T => am_kt (am_hs m) Q pc 5 L T P)
  | _ => False
def aw_oth (pc : Nat) (i : Instr) (L : am_V) (S : List Value) (h : am_H) (P : am_P) : Prop := match am_pure i S with
  | some (A, S') => A ∧ P (pc + am_len i) L S' h
  | none => (match am_br i S with
    | some (A, t, S') => 0 ≤ t ∧ (A → P t.toNat L S' h) ∧ (¬ A → P (pc + 3) L S' h)
    | none => (match am_sw i S with
      | some (t, S') => 0 ≤ t ∧ P t.toNat L S' h
      | none => False))
def am_Mle (M M' : am_M) : Prop := ∀ m a h (K K' : am_O → am_H → Prop), (∀ o h', K o h' → K' o h') → M m a h K → M' m a h K'
def am_Mon (M : am_M) : Prop := am_Mle M M
section AW1
variable {m kk : Nat} {M M' : am_M} {Q Q' : am_O → am_H → Prop} {pc : Nat} {i : Instr} {L : am_V} {S : List Value} {h : am_H} {P P' : am_P}
theorem am_kt_mono {hs : List am_Hn} {len : Nat} {T : List Value} (hP : ∀ a b c d, P a b c d → P' a b c d) (hQ : ∀ o h, Q o h → Q' o h) (o : am_O) (h' : am_H) (k : am_kt hs Q pc len L T P o h') : am_kt hs Q' pc len L T P' o h' := by
  unfold am_kt at k ⊢
  split
  · exact hP _ _ _ _ k
  · exact hP _ _ _ _ k
  · dsimp only at k
    split
    · rename_i e; rw [if_pos e] at k; exact hQ _ _ k
    · rename_i e
      rw [if_neg e] at k
      split
      · rename_i e2; rw [e2] at k; exact hP _ _ _ _ k
      · rename_i e2; rw [e2] at k; exact k
theorem am_rA_mono {κ : Nat} {R R' : List Value → Prop} (hR : ∀ a, R a → R' a) (k : am_rA κ S h R) : am_rA κ S h R' := by
  unfold am_rA at k ⊢
  split at k
  · obtain ⟨n, f, a, b, c⟩ := k; exact ⟨n, f, a, b, hR _ c⟩
  · exact k.elim
theorem am_rI_mono {R R' : List Value → Prop} (hR : ∀ a, R a → R' a) (k : am_rI S h R) : am_rI S h R' := by
  unfold am_rI at k ⊢
  split at k
  · obtain ⟨n, f, a, b, c⟩ := k; exact ⟨n, f, a, b, hR _ c⟩
  · obtain ⟨n, f, a, b, c⟩ := k; exact ⟨n, f, a, b, hR _ c⟩
  · exact k.elim
theorem am_rR_mono {R R' : List Value → Prop} (hR : ∀ a, R a → R' a) (k : am_rR S h R) : am_rR S h R' := by
  unfold am_rR at k ⊢
  split at k
  · obtain ⟨q, n, f, a, b, c, d⟩ := k; exact ⟨q, n, f, a, b, c, hR _ d⟩
  · exact k.elim
theorem am_wA_mono {κ : Nat} {ok : Value → Prop} {R R' : List Value → am_H → Prop} (hR : ∀ a b, R a b → R' a b) (k : am_wA κ ok S h R) : am_wA κ ok S h R' := by
  unfold am_wA at k ⊢
  split at k
  · obtain ⟨n, f, a, b, c, d⟩ := k; exact ⟨n, f, a, b, c, hR _ _ d⟩
  · exact k.elim
theorem am_wR_mono {R R' : List Value → am_H → Prop} (hR : ∀ a b, R a b → R' a b) (k : am_wR S h R) : am_wR S h R' := by
  unfold am_wR at k ⊢
  split at k
  · obtain ⟨q, n, f, a, b, c, d, e⟩ := k; exact ⟨q, n, f, a, b, c, d, hR _ _ e⟩
  · exact k.elim
theorem am_cv_mono {m' n ow : Nat} {K K' : List Value → am_O → am_H → Prop} (hM : am_Mle M M') (hK : ∀ a b c, K a b c → K' a b c) (k : am_cv M m' n ow S h K) : am_cv M' m' n ow S h K' := by
  unfold am_cv at k ⊢
  split at k
  · obtain ⟨a, b, c, d⟩ := k; exact ⟨a, b, c, hM _ _ _ _ _ (hK _) d⟩
  · exact k.elim
theorem am_ci_mono {m' n : Nat} {K K' : List Value → am_O → am_H → Prop} (hM : am_Mle M M') (hK : ∀ a b c, K a b c → K' a b c) (k : am_ci M m' n S h K) : am_ci M' m' n S h K' := by
  unfold am_ci at k ⊢
  split at k
  · obtain ⟨a, b, d⟩ := k; exact ⟨a, b, hM _ _ _ _ _ (hK _) d⟩
  · exact k.elim
theorem am_cs_mono {m' n : Nat} {K K' : List Value → am_O → am_H → Prop} (hM : am_Mle M M') (hK : ∀ a b c, K a b c → K' a b c) (k : am_cs M m' n S h K) : am_cs M' m' n S h K' := by
  obtain ⟨a, b, d⟩ := k; exact ⟨a, b, hM _ _ _ _ _ (hK _) d⟩
theorem am_cf_mono {m' n : Nat} {K K' : List Value → am_O → am_H → Prop} (hM : am_Mle M M') (hK : ∀ a b c, K a b c → K' a b c) (k : am_cf M m' n S h K) : am_cf M' m' n S h K' := by
  unfold am_cf at k ⊢
  split at k
  · obtain ⟨a, b, ci, fs, c, d, e⟩ := k; exact ⟨a, b, ci, fs, c, d, hM _ _ _ _ _ (hK _) e⟩
  · exact k.elim
set_option maxHeartbeats 4000000 in
theorem aw_in_mono (hM : am_Mle M M') (hP : ∀ a b c d, P a b c d → P' a b c d) (hQ : ∀ o h, Q o h → Q' o h) (k : aw_in m M Q pc kk i L S h P) : aw_in m M' Q' pc kk i L S h P' := by
  unfold aw_in at k
  split at k
  all_goals unfold aw_in
  all_goals first
    | exact k.elim
    | exact hP _ _ _ _ k
    | exact am_rA_mono (fun _ => hP _ _ _ _) k
    | exact am_rI_mono (fun _ => hP _ _ _ _) k
    | exact am_rR_mono (fun _ => hP _ _ _ _) k
    | exact am_wA_mono (fun _ _ => hP _ _ _ _) k
    | exact am_wR_mono (fun _ _ => hP _ _ _ _) k
    | exact am_cf_mono hM (fun _ => am_kt_mono hP hQ) k
    | exact ⟨k.1, hQ _ _ k.2⟩
    | exact ⟨k.1, k.2.1, hQ _ _ k.2.2⟩
    | skip
  all_goals (try dsimp only)
  all_goals first
    | done
    | (split at k
       all_goals first
        | exact k.elim
        | exact hP _ _ _ _ k
        | exact hQ _ _ k
        | exact ⟨k.1, hP _ _ _ _ k.2⟩
        | exact ⟨k.1, k.2.1, hP _ _ _ _ k.2.2⟩
        | exact ⟨k.1, hQ _ _ k.2⟩
        | exact ⟨k.1, k.2.1, hQ _ _ k.2.2⟩
        | (obtain ⟨x1, x2, y1, y2, y3, y4⟩ := k; exact ⟨x1, x2, y1, y2, y3, hP _ _ _ _ y4⟩)
        | (obtain ⟨x1, y1, y2, y3, y4, y5⟩ := k; exact ⟨x1, y1, y2, y3, y4, hP _ _ _ _ y5⟩)
        | (obtain ⟨x1, x2, x3, y1, y2, y3⟩ := k; exact ⟨x1, x2, x3, y1, y2, hP _ _ _ _ y3⟩)
        | (obtain ⟨x1, x2, y1, y2⟩ := k; exact ⟨x1, x2, y1, hP _ _ _ _ y2⟩)
        | skip)
    | skip
  all_goals (rename_i hz; first | rw [if_pos hz] | rw [if_neg hz])
  all_goals first
    | exact ⟨k.1, k.2.1, k.2.2.1, k.2.2.2.1, hQ _ _ k.2.2.2.2⟩
    | exact ⟨k.1, k.2.1, hP _ _ _ _ k.2.2⟩
    | exact am_cv_mono hM (fun _ => am_kt_mono hP hQ) k
    | exact am_cs_mono hM (fun _ => am_kt_mono hP hQ) k
    | (split at k
       all_goals first
        | exact k.elim
        | exact hP _ _ _ _ k
        | exact ⟨k.1, hP _ _ _ _ k.2⟩
        | exact ⟨k.1, k.2.1, hP _ _ _ _ k.2.2⟩
        | (rename_i hy; rw [if_neg hy]; exact am_ci_mono hM (fun _ => am_kt_mono hP hQ) k))
theorem aw_oth_mono (hP : ∀ a b c d, P a b c d → P' a b c d) (k : aw_oth pc i L S h P) : aw_oth pc i L S h P' := by
  unfold aw_oth at k ⊢
  split at k
  · exact ⟨k.1, hP _ _ _ _ k.2⟩
  · split at k
    · exact ⟨k.1, fun a => hP _ _ _ _ (k.2.1 a), fun a => hP _ _ _ _ (k.2.2 a)⟩
    · split at k
      · exact ⟨k.1, hP _ _ _ _ k.2⟩
      · exact k.elim
end AW1
def am_cd (m : Nat) : List (Nat × Nat × Instr) := match m with
  | 0 => am_c0
  | 1 => am_c1
  | 2 => am_c2
  | 3 => am_c3
  | 4 => am_c4
  | 5 => am_c5
  | 6 => am_c6
  | 7 => am_c7
  | 8 => am_c8
  | 9 => am_c9
  | 10 => am_c10
  | 11 => am_c11
  | 12 => am_c12
  | 13 => am_c13
  | 14 => am_c14
  | 15 => am_c15
  | 16 => am_c16
  | 17 => am_c17
  | 18 => am_c18
  | 19 => am_c19
  | 20 => am_c20
  | 21 => am_c21
  | 22 => am_c22
  | 23 => am_c23
  | 24 => am_c24
  | 25 => am_c25
  | 26 => am_c26
  | 27 => am_c27
  | 28 => am_c28
  | 29 => am_c29
  | 30 => am_c30
  | 31 => am_c31
  | 32 => am_c32
  | 33 => am_c33
  | 34 => am_c34
  | 35 => am_c35
  | 36 => am_c36
  | 37 => am_c37
  | 38 => am_c38
  | 39 => am_c39
  | 40 => am_c40
  | 41 => am_c41
  | 42 => am_c42
  | 43 => am_c43
  | 44 => am_c44
  | 45 => am_c45
  | 46 => am_c46
  | 47 => am_c47
  | 48 => am_c48
  | 49 => am_c49
  | 50 => am_c50
  | 51 => am_c51
  | 52 => am_c52
  | 53 => am_c53
  | 54 => am_c54
  | 55 => am_c55
  | 56 => am_c56
  | 57 => am_c57
  | 58 => am_c58
  | 59 => am_c59
  | 60 => am_c60
  | 61 => am_c61
  | 62 => am_c62
  | 63 => am_c63
  | 64 => am_c64
  | 65 => am_c65
  | 66 => am_c66
  | 67 => am_c67
  | 68 => am_c68
  | 69 => am_c69
  | 70 => am_c70
  | 71 => am_c71
  | 72 => am_c72
  | 73 => am_c73
  | 74 => am_c74
  | 75 => am_c75
  | 76 => am_c76
  | 77 => am_c77
  | 78 => am_c78
  | 79 => am_c79
  | 80 => am_c80
  | 81 => am_c81
  | 82 => am_c82
  | 83 => am_c83
  | 84 => am_c84
  | 85 => am_c85
  | 86 => am_c86
  | 87 => am_c87
  | 88 => am_c88
  | 89 => am_c89
  | 90 => am_c90
  | 91 => am_c91
  | 92 => am_c92
  | 93 => am_c93
  | 94 => am_c94
  | 95 => am_c95
  | 96 => am_c96
  | 97 => am_c97
  | 98 => am_c98
  | 99 => am_c99
  | 100 => am_c100
  | 101 => am_c101
  | 102 => am_c102
  | 103 => am_c103
  | 104 => am_c104
  | 105 => am_c105
  | 106 => am_c106
  | 107 => am_c107
  | 108 => am_c108
  | 109 => am_c109
  | 110 => am_c110
  | 111 => am_c111
  | 112 => am_c112
  | 113 => am_c113
  | 114 => am_c114
  | 115 => am_c115
  | 116 => am_c116
  | 117 => am_c117
  | 118 => am_c118
  | 119 => am_c119
  | 120 => am_c120
  | 121 => am_c121
  | 122 => am_c122
  | 123 => am_c123
  | 124 => am_c124
  | 125 => am_c125
  | 126 => am_c126
  | 127 => am_c127
  | 128 => am_c128
  | 129 => am_c129
  | 130 => am_c130
  | 131 => am_c131
  | 132 => am_c132
  | 133 => am_c133
  | 134 => am_c134
  | 135 => am_c135
  | 136 => am_c136
  | 137 => am_c137
  | 138 => am_c138
  | 139 => am_c139
  | 140 => am_c140
  | 141 => am_c141
  | 142 => am_c142
  | 143 => am_c143
  | 144 => am_c144
  | 145 => am_c145
  | 146 => am_c146
  | 147 => am_c147
  | 148 => am_c148
  | 149 => am_c149
  | 150 => am_c150
  | 151 => am_c151
  | 152 => am_c152
  | 153 => am_c153
  | 154 => am_c154
  | 155 => am_c155
  | 156 => am_c156
  | 157 => am_c157
  | 158 => am_c158
  | 159 => am_c159
  | 160 => am_c160
  | 161 => am_c161
  | 162 => am_c162
  | 163 => am_c163
  | 164 => am_c164
  | 165 => am_c165
  | 166 => am_c166
  | 167 => am_c167
  | 168 => am_c168
  | 169 => am_c169
  | 170 => am_c170
  | 171 => am_c171
  | 172 => am_c172
  | 173 => am_c173
  | 174 => am_c174
  | 175 => am_c175
  | 176 => am_c176
  | 177 => am_c177
  | 178 => am_c178
  | 179 => am_c179
  | 180 => am_c180
  | 181 => am_c181
  | 182 => am_c182
  | 183 => am_c183
  | 184 => am_c184
  | 185 => am_c185
  | 186 => am_c186
  | 187 => am_c187
  | 188 => am_c188
  | 189 => am_c189
  | 190 => am_c190
  | 191 => am_c191
  | 192 => am_c192
  | 193 => am_c193
  | 194 => am_c194
  | 195 => am_c195
  | 196 => am_c196
  | 197 => am_c197
  | 198 => am_c198
  | 199 => am_c199
  | 200 => am_c200
  | 201 => am_c201
  | 202 => am_c202
  | 203 => am_c203
  | 204 => am_c204
  | 205 => am_c205
  | 206 => am_c206
  | 207 => am_c207
  | 208 => am_c208
  | 209 => am_c209
  | 210 => am_c210
  | 211 => am_c211
  | 212 => am_c212
  | 213 => am_c213
  | 214 => am_c214
  | 215 => am_c215
  | 216 => am_c216
  | 217 => am_c217
  | 218 => am_c218
  | 219 => am_c219
  | 220 => am_c220
  | 221 => am_c221
  | _ => []
/-- the step at a place of a method -/
def aw_st (m : Nat) (M : am_M) (Q : am_O → am_H → Prop) (pc : Nat) (L : am_V) (S : List Value) (h : am_H) (P : am_P) : Prop := match (am_cd m).lookup pc with
  | some q => aw_in m M Q pc q.1 q.2 L S h P ∨ aw_oth pc q.2 L S h P
  | none => False
/-- the walk: the least predicate closed under the step -/
def AW (m : Nat) (M : am_M) (Q : am_O → am_H → Prop) (pc : Nat) (L : am_V) (S : List Value) (h : am_H) : Prop :=
  ∀ P : am_P, (∀ pc L S h, aw_st m M Q pc L S h P → P pc L S h) → P pc L S h
section AW2
variable {m : Nat} {M M' : am_M} {Q Q' : am_O → am_H → Prop} {pc : Nat} {i : Instr} {L : am_V} {S : List Value} {h : am_H} {P P' : am_P}
theorem aw_st_mono (hM : am_Mle M M') (hP : ∀ a b c d, P a b c d → P' a b c d) (hQ : ∀ o h, Q o h → Q' o h) (k : aw_st m M Q pc L S h P) : aw_st m M' Q' pc L S h P' := by
  unfold aw_st at k ⊢
  split
  · rename_i e
    rw [e] at k
    exact k.imp (aw_in_mono hM hP hQ) (aw_oth_mono hP)
  · rename_i e
    rw [e] at k
    exact k
theorem AW.fold (hM : am_Mon M) (k : aw_st m M Q pc L S h (AW m M Q)) : AW m M Q pc L S h := fun P hP => hP _ _ _ _ (aw_st_mono hM (fun _ _ _ _ q => q P hP) (fun _ _ q => q) k)
theorem AW.unfold (hM : am_Mon M) (k : AW m M Q pc L S h) : aw_st m M Q pc L S h (AW m M Q) :=
  k (fun pc L S h => aw_st m M Q pc L S h (AW m M Q)) (fun _ _ _ _ q => aw_st_mono hM (fun _ _ _ _ r => AW.fold hM r) (fun _ _ q => q) q)
theorem AW.iff (hM : am_Mon M) : AW m M Q pc L S h ↔ aw_st m M Q pc L S h (AW m M Q) := ⟨AW.unfold hM, AW.fold hM⟩
theorem AW.mono (hM : am_Mon M) (hQ : ∀ o h, Q o h → Q' o h) (k : AW m M Q pc L S h) : AW m M Q' pc L S h :=
  k (AW m M Q') (fun _ _ _ _ q => AW.fold hM (aw_st_mono hM (fun _ _ _ _ r => r) hQ q))
end AW2
/-- a call that goes at most so deep -/
def AC : Nat → am_M
  | 0 => fun _ _ _ _ => False
  | d + 1 => fun m a h Q => m < 221 ∧ (am_lay a).length ≤ am_mL m ∧ AW m (AC d) Q 0 (am_ent (am_mL m) a) [] h
theorem AC.mon : ∀ d, am_Mon (AC d) := by
  intro d
  induction d with
  | zero => intro m a h K K' hK k; exact k
  | succ d ih => intro m a h K K' hK k; exact ⟨k.1, k.2.1, AW.mono ih hK k.2.2⟩
theorem AW.deep {M M' : am_M} (hM' : am_Mon M') (hh : am_Mle M M') {m : Nat} {Q Q' : am_O → am_H → Prop} {pc : Nat} {L : am_V} {S : List Value} {h : am_H} (hQ : ∀ o h, Q o h → Q' o h) (k : AW m M Q pc L S h) : AW m M' Q' pc L S h :=
  k (AW m M' Q') (fun _ _ _ _ q => AW.fold hM' (aw_st_mono hh (fun _ _ _ _ r => r) hQ q))
theorem AC.succ : ∀ d, am_Mle (AC d) (AC (d + 1)) := by
  intro d
  induction d with
  | zero => intro m a h K K' hK k; exact k.elim
  | succ d ih => intro m a h K K' hK k; exact ⟨k.1, k.2.1, AW.deep (AC.mon (d + 1)) ih hK k.2.2⟩
theorem AC.le {d d' : Nat} (hd : d ≤ d') {m : Nat} {a : List Value} {h : am_H} {K : am_O → am_H → Prop} (k : AC d m a h K) : AC d' m a h K := by
  induction hd with
  | refl => exact k
  | step _ ih => exact AC.succ _ _ _ _ _ _ (fun _ _ q => q) ih
theorem AC.use {d d' : Nat} {m : Nat} {a : List Value} {h : am_H} {K K' : am_O → am_H → Prop} (k : AC d m a h K) (hd : d ≤ d') (hK : ∀ o h', K o h' → K' o h') : AC d' m a h K' := AC.mon _ _ _ _ _ _ hK (AC.le hd k)
