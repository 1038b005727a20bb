/-! THE SMALL MACHINE, 14: its own addresses against the machine's; counts of cells and slots; locals -/
set_option maxRecDepth 100000
def am_fv (φ : Nat → Nat) (v : Value) : Value := match v with
  | .ref a => .ref (φ (a + 1))
  | .retAddr _ => .ref (φ 0)
  | v => v
def am_fc (φ : Nat → Nat) (x : am_C) : am_C := match x with
  | .inl q => .inl (q.1, q.2.1, fun j => am_fv φ (q.2.2 j))
  | .inr q => .inr (q.1, q.2.map (am_fv φ))
/-- all but the script -/
def am_dr (h : am_H) (a : Nat) : Option am_C := if a = 24 then none else h.1 a
noncomputable def am_rh (φ : Nat → Nat) (h : am_H) : am_H := (fun b => @dite _ (∃ a, φ (a + 1) = b) (Classical.propDecidable _) (fun e => (am_dr h e.choose).map (am_fc φ)) (fun _ => none), φ (h.2.1 + 1), h.2.2)
section RN
variable {φ : Nat → Nat} {h : am_H} {a b n : Nat} {x : am_C}
theorem am_rh_at (inj : ∀ a b, φ (a + 1) = φ (b + 1) → a = b) : (am_rh φ h).1 (φ (a + 1)) = (am_dr h a).map (am_fc φ) := by
  have e : ∃ a', φ (a' + 1) = φ (a + 1) := ⟨a, rfl⟩
  have h1 : (am_rh φ h).1 (φ (a + 1)) = (am_dr h e.choose).map (am_fc φ) := dif_pos e
  rw [h1, inj _ _ e.choose_spec]
theorem am_rh_out (e : ¬ ∃ a, φ (a + 1) = b) : (am_rh φ h).1 b = none := dif_neg e
theorem am_rh_up (inj : ∀ a b, φ (a + 1) = φ (b + 1) → a = b) (h24 : a ≠ 24) : am_up (am_rh φ h) (φ (a + 1)) (am_fc φ x) = am_rh φ (am_up h a x) := by
  refine Prod.ext (funext fun b => ?_) rfl
  by_cases e : ∃ a', φ (a' + 1) = b
  · obtain ⟨a', rfl⟩ := e
    rw [am_rh_at inj]
    show (if φ (a' + 1) = φ (a + 1) then some (am_fc φ x) else (am_rh φ h).1 (φ (a' + 1))) = (if a' = 24 then none else if a' = a then some x else h.1 a').map (am_fc φ)
    rw [am_rh_at inj]
    by_cases e : a' = a
    · subst e; simp [h24]
    · rw [if_neg (fun q => e (inj _ _ q)), if_neg e]; rfl
  · rw [am_rh_out e]
    show (if b = φ (a + 1) then some (am_fc φ x) else (am_rh φ h).1 b) = none
    rw [if_neg (fun q => e ⟨a, q.symm⟩), am_rh_out e]
theorem am_rh_nw (inj : ∀ a b, φ (a + 1) = φ (b + 1) → a = b) (h24 : h.2.1 ≠ 24) (hn : φ (h.2.1 + 1 + 1) = φ (h.2.1 + 1) + 1) : am_nw (am_rh φ h) (am_fc φ x) n = am_rh φ (am_nw h x n) := by
  refine Prod.ext (funext fun b => ?_) (Prod.ext hn.symm rfl)
  by_cases e : ∃ a', φ (a' + 1) = b
  · obtain ⟨a', rfl⟩ := e
    rw [am_rh_at inj]
    show (if φ (a' + 1) = φ (h.2.1 + 1) then some (am_fc φ x) else (am_rh φ h).1 (φ (a' + 1))) = (if a' = 24 then none else if a' = h.2.1 then some x else h.1 a').map (am_fc φ)
    rw [am_rh_at inj]
    by_cases e : a' = h.2.1
    · subst e; simp [h24]
    · rw [if_neg (fun q => e (inj _ _ q)), if_neg e]; rfl
  · rw [am_rh_out e]
    show (if b = φ (h.2.1 + 1) then some (am_fc φ x) else (am_rh φ h).1 b) = none
    rw [if_neg (fun q => e ⟨h.2.1, q.symm⟩), am_rh_out e]
theorem am_fv_cat (v : Value) : (am_fv φ v).category = v.category := by cases v <;> rfl
theorem am_fv_isR {v : Value} (h : am_isR v = true) : am_isR (am_fv φ v) = true := by cases v <;> first | rfl | cases h
theorem am_fv_inj (inj : ∀ a b, φ (a + 1) = φ (b + 1) → a = b) {v w : Value} (hv : am_isR v = true) (hw : am_isR w = true) (h : am_fv φ v = am_fv φ w) : v = w := by
  cases v <;> cases w <;> simp_all [am_fv, am_isR]
  exact inj _ _ h
theorem am_fit_fv {ty : FieldType} {v : Value} (h : am_fit ty v) : am_fit ty (am_fv φ v) := by
  cases v <;> try exact h
  all_goals
    obtain ⟨h1, h2⟩ := h
    cases ty <;> simp_all [am_fit, am_fv, narrow, fits]
theorem am_upd_fv {f : Nat → Value} {j : Nat} {v : Value} : (fun k => am_fv φ (updV f j v k)) = updV (fun k => am_fv φ (f k)) j (am_fv φ v) := by
  funext k
  unfold updV
  split <;> rfl
theorem am_nul_fv (l : List Value) (h : ∀ v ∈ l, am_fv φ v = v) : l.map (am_fv φ) = l := by
  induction l with
  | nil => rfl
  | cons v t ih => rw [List.map_cons, h v List.mem_cons_self, ih (fun w hw => h w (List.mem_cons_of_mem _ hw))]
theorem am_def_fv (ty : FieldType) : am_fv φ (defaultValue ty) = defaultValue ty := by cases ty <;> rfl
theorem am_blank_fv (ci : Nat) : (am_blank ci).map (am_fv φ) = am_blank ci := by
  refine am_nul_fv _ (fun v hv => ?_)
  simp only [am_blank, List.mem_map] at hv
  obtain ⟨k, -, rfl⟩ := hv
  exact am_def_fv _
end RN
def am_tot (H : Heap) : Nat := H.foldl (fun n c => n + c.slots.size) 0
section CN
variable {p : Program} {l : Launch} {e : Env} {R : Room} {s : State} {m : MethodId} {args : Array Value} {below : List Frame} {meth : Method} {c : Code} {H : Heap} {locs : List Loc} {Q : State → Prop} {g : JFrame} {c0 s0 c1 s1 : Nat} {T : State}
theorem am_totS (X : Stand p l e R s m args below meth c T locs c0 s0) : s.slotsUsed = am_tot s.heap ∧ T.slotsUsed = am_tot T.heap := by
  have h0 : s.slotsTrue = true := by
    have h := X.room
    simp only [State.hasRoom, Bool.and_eq_true] at h
    exact h.2
  have h1 := X.book
  exact ⟨eq_of_beq h0, eq_of_beq h1⟩
theorem am_Wtot (k : H.size ≤ s.heap.size + c0 → am_tot H ≤ am_tot s.heap + s0 → W p l e R s m args below meth c H locs c0 s0 Q g) : W p l e R s m args below meth c H locs c0 s0 Q g := by
  intro T hT X
  obtain ⟨e1, e2⟩ := am_totS X
  have h1 := X.heapSize
  have h2 := X.used
  rw [e1, e2, hT] at h2
  rw [hT] at h1
  exact k h1 h2 T hT X
theorem am_Wany (h1 : H.size ≤ s.heap.size + c1) (h2 : am_tot H ≤ am_tot s.heap + s1) (k : W p l e R s m args below meth c H locs c1 s1 Q g) : W p l e R s m args below meth c H locs c0 s0 Q g := by
  intro T hT X
  obtain ⟨e1, e2⟩ := am_totS X
  have q := X.same
  have q4 : T.slotsUsed = s.slotsUsed + _ := q.2.2.2.1
  refine k T hT ⟨X.admits, X.cas, X.clock, X.frames, X.room, X.hears, X.method, X.code, X.here, X.tail, X.warmed, X.limits, X.bytes, q.1, q.2.1, ?_, q4, ?_, q.2.2.2.2.2⟩
  · show T.heap.size ≤ _
    rw [hT]; exact h1
  · have h3 := q4
    rw [e1, e2] at h3
    rw [← hT] at h2
    omega
end CN
/-- the locals as a list of places and values -/
def am_as (φ : Nat → Nat) : Nat → am_V → am_L
  | _, [] => []
  | i, none :: L => am_as φ (i + 1) L
  | i, some v :: L => (i, am_fv φ v) :: am_as φ (i + 1) L
section LC
variable {φ : Nat → Nat}
theorem am_as_mem {L : am_V} : ∀ {i j : Nat} {w : Value}, (j, w) ∈ am_as φ i L ↔ ∃ k v, j = i + k ∧ L[k]? = some (some v) ∧ w = am_fv φ v := by
  induction L with
  | nil => intro i j w; simp [am_as]
  | cons a L ih =>
    intro i j w
    have step : (∃ k v, j = i + 1 + k ∧ L[k]? = some (some v) ∧ w = am_fv φ v) ↔ ∃ k v, j = i + (k + 1) ∧ (a :: L)[k + 1]? = some (some v) ∧ w = am_fv φ v := by
      constructor
      · rintro ⟨k, v, h1, h2, h3⟩; exact ⟨k, v, by omega, by simpa using h2, h3⟩
      · rintro ⟨k, v, h1, h2, h3⟩; exact ⟨k, v, by omega, by simpa using h2, h3⟩
    have all : (∃ k v, j = i + k ∧ (a :: L)[k]? = some (some v) ∧ w = am_fv φ v) ↔ (∃ v, j = i ∧ a = some v ∧ w = am_fv φ v) ∨ ∃ k v, j = i + (k + 1) ∧ (a :: L)[k + 1]? = some (some v) ∧ w = am_fv φ v := by
      constructor
      · rintro ⟨k, v, h1, h2, h3⟩
        cases k with
        | zero => exact Or.inl ⟨v, h1, by simpa using h2, h3⟩
        | succ k => exact Or.inr ⟨k, v, h1, h2, h3⟩
      · rintro (⟨v, h1, h2, h3⟩ | ⟨k, v, h1, h2, h3⟩)
        · exact ⟨0, v, h1, by simp [h2], h3⟩
        · exact ⟨k + 1, v, h1, h2, h3⟩
    cases a with
    | none => rw [am_as, ih, step, all]; simp
    | some u =>
      rw [am_as, List.mem_cons, ih, step, all]
      constructor
      · rintro (h | h)
        · cases h; exact Or.inl ⟨u, rfl, rfl, rfl⟩
        · exact Or.inr h
      · rintro (⟨v, h1, h2, h3⟩ | h)
        · cases h2; exact Or.inl (by rw [h1, h3])
        · exact Or.inr h
theorem am_k_some {a : Option Value} {u : Value} (h : am_k a = some u) : a = some u ∧ ¬ u.category = 2 := by
  cases a with
  | none => cases h
  | some v => cases v <;> simp [am_k] at h <;> subst h <;> simp [Value.category]
theorem am_s1_get : ∀ (L : am_V) (n j : Nat) (v : Value), n < L.length → (am_s1 L n v)[j]? = if j = n then some (some v) else if j + 1 = n then (L[j]?).map am_k else L[j]? := by
  intro L
  induction L with
  | nil => intro n j v h; simp at h
  | cons a L ih =>
    intro n j v h
    match n, h with
    | 0, _ =>
      cases j with
      | zero => simp [am_s1]
      | succ j => simp [am_s1]
    | 1, h =>
      cases j with
      | zero => simp [am_s1]
      | succ j =>
        have := ih 0 j v (by simp at h; omega)
        simp only [am_s1, List.getElem?_cons_succ, this]
        simp
    | n + 2, h =>
      cases j with
      | zero => simp [am_s1]
      | succ j =>
        have := ih (n + 1) j v (by simp at h; omega)
        simp only [am_s1, List.getElem?_cons_succ, this]
        simp
theorem am_s2_get : ∀ (L : am_V) (n j : Nat) (v : Value), n + 1 < L.length → (am_s2 L n v)[j]? = if j = n then some (some v) else if j = n + 1 then some none else if j + 1 = n then (L[j]?).map am_k else L[j]? := by
  intro L
  induction L with
  | nil => intro n j v h; simp at h
  | cons a L ih =>
    intro n j v h
    match n, L, ih, h with
    | 0, b :: L, _, _ =>
      match j with
      | 0 => simp [am_s2]
      | 1 => simp [am_s2]
      | j + 2 => simp [am_s2]
    | 1, L, ih, h =>
      cases j with
      | zero => simp [am_s2]
      | succ j =>
        have := ih 0 j v (by simp at h; omega)
        simp only [am_s2, List.getElem?_cons_succ, this]
        simp
    | n + 2, L, ih, h =>
      cases j with
      | zero => simp [am_s2]
      | succ j =>
        have := ih (n + 1) j v (by simp at h; omega)
        simp only [am_s2, List.getElem?_cons_succ, this]
        simp
theorem am_s1_len : ∀ (L : am_V) (n : Nat) (v : Value), (am_s1 L n v).length = L.length := by
  intro L
  induction L with
  | nil => intro n v; rfl
  | cons a L ih =>
    intro n v
    match n with
    | 0 => simp [am_s1]
    | 1 => simp [am_s1, ih]
    | n + 2 => simp [am_s1, ih]
theorem am_s2_len : ∀ (L : am_V) (n : Nat) (v : Value), (am_s2 L n v).length ≤ L.length := by
  intro L
  induction L with
  | nil => intro n v; simp [am_s2]
  | cons a L ih =>
    intro n v
    match n, L, ih with
    | 0, [], _ => simp [am_s2]
    | 0, b :: L, _ => simp [am_s2]
    | 1, L, ih => have := ih 0 v; simp only [am_s2, List.length_cons]; omega
    | n + 2, L, ih => have := ih (n + 1) v; simp only [am_s2, List.length_cons]; omega
theorem am_has_sub {ls : Array Slot} {nL : Nat} {A B : am_L} (h : lv_has ls nL A) (hs : ∀ q ∈ B, q ∈ A) : lv_has ls nL B := ⟨h.1, h.2.1, fun q hq => h.2.2 q (hs q hq)⟩
theorem am_has_ld {ls : Array Slot} {nL : Nat} {L : am_V} {n : Nat} {v : Value} (h : lv_has ls nL (am_as φ 0 L)) (hv : am_ld L n = some v) : ls[n]? = some (.val (am_fv φ v)) := by
  refine h.2.2 (n, am_fv φ v) (am_as_mem.mpr ⟨n, v, by omega, ?_, rfl⟩)
  unfold am_ld at hv
  split at hv
  · rename_i e; cases hv; exact e
  · cases hv
theorem am_has_s1 {ls : Array Slot} {nL : Nat} {L : am_V} {n : Nat} {v : Value} (hn : n < L.length) (h : lv_has ls nL ((n, am_fv φ v) :: (am_as φ 0 L).filter (fun q => !(q.1 == n) && !(q.1 + 1 == n && q.2.category == 2)))) : lv_has ls nL (am_as φ 0 (am_s1 L n v)) := by
  refine am_has_sub h (fun q hq => ?_)
  obtain ⟨j, w⟩ := q
  obtain ⟨k, u, rfl, h1, rfl⟩ := am_as_mem.mp hq
  rw [am_s1_get L n k v hn] at h1
  rw [Nat.zero_add]
  by_cases e1 : k = n
  · rw [if_pos e1] at h1
    cases h1
    rw [e1]; exact List.mem_cons_self
  · rw [if_neg e1] at h1
    refine List.mem_cons_of_mem _ (List.mem_filter.mpr ?_)
    by_cases e2 : k + 1 = n
    · rw [if_pos e2] at h1
      obtain ⟨a, ha, hk⟩ := Option.map_eq_some_iff.mp h1
      obtain ⟨rfl, hc⟩ := am_k_some hk
      exact ⟨am_as_mem.mpr ⟨k, u, by omega, ha, rfl⟩, by simp [e1, am_fv_cat, hc]⟩
    · rw [if_neg e2] at h1
      exact ⟨am_as_mem.mpr ⟨k, u, by omega, h1, rfl⟩, by simp [e1, e2]⟩
theorem am_has_s2 {ls : Array Slot} {nL : Nat} {L : am_V} {n : Nat} {v : Value} (hn : n + 1 < L.length) (h : lv_has ls nL ((n, am_fv φ v) :: (am_as φ 0 L).filter (fun q => !(q.1 == n) && (!(q.1 == n + 1) && !(q.1 + 1 == n && q.2.category == 2))))) : lv_has ls nL (am_as φ 0 (am_s2 L n v)) := by
  refine am_has_sub h (fun q hq => ?_)
  obtain ⟨j, w⟩ := q
  obtain ⟨k, u, rfl, h1, rfl⟩ := am_as_mem.mp hq
  rw [am_s2_get L n k v hn] at h1
  rw [Nat.zero_add]
  by_cases e1 : k = n
  · rw [if_pos e1] at h1
    cases h1
    rw [e1]; exact List.mem_cons_self
  · rw [if_neg e1] at h1
    by_cases e3 : k = n + 1
    · rw [if_pos e3] at h1; cases h1
    rw [if_neg e3] at h1
    refine List.mem_cons_of_mem _ (List.mem_filter.mpr ?_)
    by_cases e2 : k + 1 = n
    · rw [if_pos e2] at h1
      obtain ⟨a, ha, hk⟩ := Option.map_eq_some_iff.mp h1
      obtain ⟨rfl, hc⟩ := am_k_some hk
      exact ⟨am_as_mem.mpr ⟨k, u, by omega, ha, rfl⟩, by simp [e1, e3, am_fv_cat, hc]⟩
    · rw [if_neg e2] at h1
      exact ⟨am_as_mem.mpr ⟨k, u, by omega, h1, rfl⟩, by simp [e1, e2, e3]⟩
/-- at the entry -/
theorem am_as_lay : ∀ (a : List Value) (i : Nat) (n : Nat), am_as φ i (am_lay a ++ List.replicate n none) = lv_args i (a.map (am_fv φ)) := by
  intro a
  induction a with
  | nil =>
    intro i n
    simp only [am_lay, List.nil_append, List.map_nil]
    induction n generalizing i with
    | zero => rfl
    | succ n ih => rw [List.replicate_succ, am_as, ih]; rfl
  | cons v t ih =>
    intro i n
    simp only [am_lay, List.map_cons, lv_args, am_fv_cat]
    by_cases e : v.category = 2
    · rw [if_pos e, List.cons_append, List.cons_append, am_as, am_as, ih]
      simp [e]
    · rw [if_neg e, List.cons_append, am_as, ih]
      have : v.category = 1 := by cases v <;> simp_all [Value.category]
      simp [this]
end LC
