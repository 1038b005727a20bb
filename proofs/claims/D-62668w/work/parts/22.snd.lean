/-! THE SMALL MACHINE, 15: the real machine follows it -/
set_option maxRecDepth 100000
/-- the constants of Sort and Op: their cells and their numbers -/
def am_E (ad : Nat → Nat) (B0 : Nat) (H0 : Heap) (U : State) : Prop := ∃ cf kf fi fd, U.fieldFound? "java/lang/Enum" "ordinal" "I" = some (cf, kf, fi, fd) ∧ fd.isStatic = false ∧
  ∀ a, a < 24 → ad a < B0 ∧ ∃ cell : Cell, H0[ad a]? = some cell ∧ cell.vm ≠ .unknown ∧ cell.vm.isStatics = false ∧ U.vm.findClass (if a < 6 then "FunDesk$Sort" else "FunDesk$Op") = some cell.cls ∧ cell.slots[fd.slot]? = some (.int (Int32.ofNat (if a < 6 then a else a - 6)))
theorem am_E.moved {ad : Nat → Nat} {B0 : Nat} {H0 : Heap} {u U : State} (hvm : u.vm.Alike U.vm) (h : am_E ad B0 H0 u) : am_E ad B0 H0 U := by
  obtain ⟨cf, kf, fi, fd, h1, h2, h3⟩ := h
  obtain ⟨k', hi', -⟩ := State.fieldFound?_setVm hvm h1
  refine ⟨cf, k', fi, fd, hi', h2, fun a ha => ?_⟩
  obtain ⟨g1, cell, g2, g3, g4, g5, g6⟩ := h3 a ha
  exact ⟨g1, cell, g2, g3, g4, by rw [hvm.findClass]; exact g5, g6⟩
def am_J (dC : Nat → ClassId) (dI : Nat → Nat → Nat) (dA : Nat → ClassId) (B0 : Nat) (H0 : Heap) (φ : Nat → Nat) (T0 : Nat) (h : am_H) (H : Heap) : Prop :=
  am_Rel dC dI dA B0 H0 (am_rh φ h) H ∧ 25 ≤ h.2.1 ∧ am_tot H ≤ T0 + h.2.2 ∧ h.2.1 ≤ am_capC ∧ h.2.2 ≤ am_capS ∧ ∃ n f, h.1 24 = some (.inl (20, n, f)) ∧ am_at dC dI dA (φ 0) (am_fc φ (.inl (20, n, f))) H0 ∧ φ 0 < B0
def am_F (ad : Nat → Nat) (B0 : Nat) (φ : Nat → Nat) : Prop := (∀ a b, φ (a + 1) = φ (b + 1) → a = b) ∧ (∀ a, 25 ≤ a → φ (a + 1) = B0 + (a - 25)) ∧ ∀ a, a < 24 → φ (a + 1) = ad a
def am_om (φ : Nat → Nat) (h' : am_H) (o' : am_O) (o : Outcome) : Prop := match o', o with
  | .inl v, .returned w => w = v.map (am_fv φ)
  | .inr x, .threw y => y = φ (x.1 + 1) ∧ am_exc x.2 = true ∧ ∃ fs, h'.1 x.1 = some (.inr (x.2, fs))
  | _, _ => False
def am_Pc (dC : Nat → ClassId) (dI : Nat → Nat → Nat) (dA : Nat → ClassId) (ad : Nat → Nat) (B0 : Nat) (H0 : Heap) (φ : Nat → Nat) (T0 : Nat) (a : List Value) (h : am_H) (kc ks : Nat) (args : Array Value) (s : State) : Prop :=
  args = (a.map (am_fv φ)).toArray ∧ am_J dC dI dA B0 H0 φ T0 h s.heap ∧ am_K dC dI dA ad B0 H0 s ∧ am_E ad B0 H0 s ∧ s.heap.size + kc = B0 + 601024 ∧ am_tot s.heap + ks = T0 + 7293034
def am_Qc (dC : Nat → ClassId) (dI : Nat → Nat → Nat) (dA : Nat → ClassId) (B0 : Nat) (H0 : Heap) (φ : Nat → Nat) (T0 : Nat) (K : am_O → am_H → Prop) (_ : Array Value) (_ : State) (o : Outcome) (t : State) : Prop :=
  ∃ o' h', K o' h' ∧ am_J dC dI dA B0 H0 φ T0 h' t.heap ∧ am_om φ h' o' o
/-- what holds in a body -/
def am_X (dC : Nat → ClassId) (dI : Nat → Nat → Nat) (dA : Nat → ClassId) (ad : Nat → Nat) (B0 : Nat) (H0 : Heap) (φ : Nat → Nat) (T0 : Nat) (m nL : Nat) (cc : ByteArray) (p : Program) (l : Launch) (R : Room) (s : State) (mi : MethodId) (args : Array Value) (meth : Method) (c : Code) : Prop :=
  (p.tables.exec = Jvm.exec ∧ c.code = cc ∧ (∀ w ∈ lw_all, w.before args s = true) ∧ s.vm.findClass (am_on (am_ow m)) = some mi.cls ∧ l.stackTraces = false ∧ meth.locks = false ∧ c.maxLocals = nL ∧ meth.sig.returnType = am_rr m ∧ c.exceptionTable.toList.map (fun h => (h.startPc, h.endPc, h.handlerPc, h.catchType)) = am_hh m) ∧
  (am_K dC dI dA ad B0 H0 s ∧ am_E ad B0 H0 s ∧ (∀ q : Nat, q < B0 → s.heap[q]? = H0[q]?) ∧ am_F ad B0 φ) ∧
  (am_chk cc (am_ow m) (decide (am_kd m = 2)) (am_cd m) = true ∧ (am_kd m = 2 → meth.name = "<init>")) ∧
  (s.heap.size + R.cells = B0 + 601024 ∧ am_tot s.heap + R.slots = T0 + 7293034 ∧ 6 ≤ R.frames ∧ 100 ≤ R.locals)
def am_PP (dC : Nat → ClassId) (dI : Nat → Nat → Nat) (dA : Nat → ClassId) (B0 : Nat) (H0 : Heap) (φ : Nat → Nat) (T0 : Nat) (nL : Nat) (p : Program) (l : Launch) (e : Env) (R : Room) (s : State) (mi : MethodId) (args : Array Value) (below : List Frame) (meth : Method) (c : Code) (Z : State → Prop) : am_P := fun pc L S h =>
  ∀ (H : Heap) (locs : List Loc) (ls : Array Slot) (c0 s0 : Nat), am_J dC dI dA B0 H0 φ T0 h H → (∀ q ∈ locs, B0 ≤ q.base) → lv_has ls nL (am_as φ 0 L) → L.length ≤ nL → W p l e R s mi args below meth c H locs c0 s0 Z (F0 mi pc ls (S.map (am_fv φ)))
section SN1
variable {dC : Nat → ClassId} {dI : Nat → Nat → Nat} {dA : Nat → ClassId} {ad : Nat → Nat} {B0 : Nat} {H0 : Heap} {φ : Nat → Nat} {T0 : Nat} {m nL : Nat} {cc : ByteArray} {p : Program} {l : Launch} {e : Env} {R : Room} {s : State} {mi : MethodId} {args : Array Value} {below : List Frame} {meth : Method} {c : Code} {Z : State → Prop} {pc k : Nat} {i : Instr} {L : am_V} {S : List Value} {h : am_H} {H : Heap} {locs : List Loc} {ls : Array Slot} {c0 s0 : Nat}
theorem am_lk {C : List (Nat × Nat × Instr)} (h : C.lookup pc = some (k, i)) : (pc, k, i) ∈ C := by
  induction C with
  | nil => cases h
  | cons q T ih =>
    obtain ⟨j, w⟩ := q
    rw [List.lookup_cons] at h
    split at h
    · rename_i e; cases h; have e := eq_of_beq e; subst e; exact List.mem_cons_self
    · exact List.mem_cons_of_mem _ (ih h)
theorem am_X.row (X : am_X dC dI dA ad B0 H0 φ T0 m nL cc p l R s mi args meth c) (hk : (am_cd m).lookup pc = some (k, i)) : decode cc pc = .ok (am_raw pc k i, am_ln k i) ∧ am_ck1 (am_ow m) (decide (am_kd m = 2)) (am_cd m) (pc, k, i) = true := by
  have h := List.all_eq_true.mp X.2.2.1.1 _ (am_lk hk)
  simp only [Bool.and_eq_true, decide_eq_true_eq] at h
  exact h
theorem am_J.size (hJ : am_J dC dI dA B0 H0 φ T0 h H) (F : am_F ad B0 φ) : H.size = B0 + (h.2.1 - 25) := hJ.1.1.trans (F.2.1 _ hJ.2.1)
theorem am_pure_map {A : Prop} {S' : List Value} (hq : am_pure i S = some (A, S')) : am_pure i (S.map (am_fv φ)) = some (A, S'.map (am_fv φ)) := by
  unfold am_pure at hq
  split at hq
  all_goals first
    | (obtain ⟨x, y, T, rfl, rfl, rfl⟩ := am_ii_inv hq; rfl)
    | (obtain ⟨x, y, T, rfl, rfl, rfl⟩ := am_ll_inv hq; rfl)
    | (obtain ⟨x, y, T, rfl, rfl, rfl⟩ := am_dd_inv hq; rfl)
    | (obtain ⟨x, T, rfl, rfl, rfl⟩ := am_i1_inv hq; rfl)
    | (obtain ⟨x, T, rfl, rfl, rfl⟩ := am_l1_inv hq; rfl)
    | (obtain ⟨x, T, rfl, rfl, rfl⟩ := am_d1_inv hq; rfl)
    | (cases hq; rfl)
    | (cases hq; done)
    | (split at hq
       · cases hq; rfl
       · cases hq)
    | (split at hq
       · rename_i hz; cases hq; simp [am_pure, hz, am_fv]
       · cases hq)
    | (split at hq
       · split at hq
         · rename_i hz; cases hq; simp [am_pure, am_fv_cat, hz]
         · cases hq
       · cases hq)
theorem am_br_map (F : am_F ad B0 φ) {A : Prop} {t : Int} {S' : List Value} (hq : am_br i S = some (A, t, S')) : ∃ A', am_br i (S.map (am_fv φ)) = some (A', t, S'.map (am_fv φ)) ∧ (A' ↔ A) := by
  unfold am_br at hq
  split at hq
  · cases hq; exact ⟨_, rfl, Iff.rfl⟩
  · split at hq
    · cases hq; exact ⟨_, rfl, Iff.rfl⟩
    · cases hq
  · split at hq
    · cases hq; exact ⟨_, rfl, Iff.rfl⟩
    · cases hq
  · split at hq
    · split at hq
      · rename_i cd t1 t0 y x T hr
        cases hq
        have hr' : am_isR (am_fv φ x) = true ∧ am_isR (am_fv φ y) = true := ⟨am_fv_isR hr.1, am_fv_isR hr.2⟩
        have hxy : am_fv φ x = am_fv φ y ↔ x = y := ⟨am_fv_inj F.1 hr.1 hr.2, fun q => by rw [q]⟩
        refine ⟨_, by simp only [am_br, List.map_cons]; rw [if_pos hr'], ?_⟩
        cases cd
        · exact hxy
        · exact not_congr hxy
      · cases hq
    · cases hq
  · split at hq
    · cases hq; exact ⟨_, rfl, Iff.rfl⟩
    · cases hq; exact ⟨_, rfl, Iff.rfl⟩
    · cases hq
  · split at hq
    · cases hq; exact ⟨_, rfl, Iff.rfl⟩
    · cases hq; exact ⟨_, rfl, Iff.rfl⟩
    · cases hq
  · cases hq
theorem am_sw_map {t : Int} {S' : List Value} (hq : am_sw i S = some (t, S')) : am_sw i (S.map (am_fv φ)) = some (t, S'.map (am_fv φ)) := by
  unfold am_sw at hq
  split at hq
  · split at hq
    · split at hq
      · rename_i hr; cases hq; simp only [am_sw, List.map_cons, am_fv]; rw [if_pos hr]
      · rename_i hr
        obtain ⟨o, ho, he⟩ := Option.map_eq_some_iff.mp hq
        cases he
        simp only [am_sw, List.map_cons, am_fv]; rw [if_neg hr, ho]; rfl
    · cases hq
  · split at hq
    · split at hq
      · rename_i hr; cases hq; simp only [am_sw, List.map_cons, am_fv]; rw [if_pos hr]
      · cases hq
    · cases hq
  · cases hq
theorem am_pure_raw {A : Prop} {S' : List Value} (hq : am_pure i S = some (A, S')) : am_raw pc k i = i ∧ am_ln k i = am_len i := by
  unfold am_pure at hq
  split at hq <;> first | exact ⟨rfl, rfl⟩ | cases hq
/-- what touches the operand stack alone, branches, switches -/
theorem am_oth_ok (X : am_X dC dI dA ad B0 H0 φ T0 m nL cc p l R s mi args meth c) (hk : (am_cd m).lookup pc = some (k, i)) (q : aw_oth pc i L S h (am_PP dC dI dA B0 H0 φ T0 nL p l e R s mi args below meth c Z)) : am_PP dC dI dA B0 H0 φ T0 nL p l e R s mi args below meth c Z pc L S h := by
  intro H locs ls c0 s0 hJ hlo hl hL
  have hd := (X.row hk).1
  obtain ⟨⟨hx, hb, -⟩, ⟨-, -, -, F⟩, -⟩ := X
  unfold aw_oth at q
  split at q
  · rename_i A S' e1
    obtain ⟨r1, r2⟩ := am_pure_raw (pc := pc) (k := k) e1
    rw [r1, r2] at hd
    exact am_pure_W hx hb (am_pure_map e1) q.1 hd (q.2 H locs ls c0 s0 hJ hlo hl hL)
  · split at q
    · rename_i A t S' e2
      obtain ⟨A', e3, hA⟩ := am_br_map F e2
      exact am_br_W hx hb e3 q.1 hd (fun z => q.2.1 (hA.mp z) H locs ls c0 s0 hJ hlo hl hL) (fun z => q.2.2 (fun y => z (hA.mpr y)) H locs ls c0 s0 hJ hlo hl hL)
    · split at q
      · rename_i t S' e2
        exact am_sw_W hx hb (am_sw_map e2) q.1 hd (q.2 H locs ls c0 s0 hJ hlo hl hL)
      · exact q.elim
end SN1
