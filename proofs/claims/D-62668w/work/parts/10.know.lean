/-! THE SMALL MACHINE, 8: what is known of the world all through a run (am_K), and the throw of a new exception. -/
set_option maxRecDepth 100000
def am_okw : Cond → Bool
  | .fieldLinkNest .. => true
  | .methodLinkNest .. => true
  | .castable .. => true
  | .declares .. => true
  | .arrayOver (.object _) => true
  | _ => false
theorem am_okw_warm {w : Cond} (h : am_okw w = true) {s U : State} (hW : s.WarmedH U.vm) (hz : va_Nw w s) : va_Nw w U := by
  unfold am_okw at h
  split at h
  · exact va_Nw.warmF hW hz
  · exact va_Nw.warmM hW hz
  · exact va_Nw.warmC hW hz
  · exact va_Nw.warmD hW hz
  · exact va_AO.moved hW.alike hz
  · cases h
theorem am_okw_same {w : Cond} (h : am_okw w = true) {s U : State} (hv : s.vm = U.vm) (hz : va_Nw w s) : va_Nw w U := am_okw_warm h (hv ▸ State.WarmedH.refl s) hz
theorem am_okw_use {w : Cond} (h : am_okw w = true) {A : Array Value} {U : State} (hz : va_Nw w U) : w.before A U = true := by
  unfold am_okw at h
  split at h
  · exact va_Nw.use rfl hz
  · exact va_Nw.use rfl hz
  · exact va_Nw.use rfl hz
  · exact va_Nw.use rfl hz
  · exact va_AO.use hz
  · cases h
def am_TS (B0 : Nat) (H0 : Heap) (n d : String) (U : State) : Prop := ∃ c k i f a cell v, U.vm.findClass Bundle.tN = some c ∧ U.fieldFound? Bundle.tN n d = some (c, k, i, f) ∧ f.isStatic = true ∧ k.statics = some a ∧ a < B0 ∧ H0[a]? = some cell ∧ cell.vm.isStatics = true ∧ cell.cls = c ∧ f.slot < cell.slots.size ∧ k.staticTypes[f.slot]? = some f.type ∧ cell.slots[f.slot]? = some v ∧ am_isR v = true
theorem am_TS.moved {B0 : Nat} {H0 : Heap} {n d : String} {u U : State} (hvm : u.vm.Alike U.vm) (h : am_TS B0 H0 n d u) : am_TS B0 H0 n d U := by
  obtain ⟨c, k, i, f, a, cell, v, h1, h2, h3, h4, h5, h6, h7, h8, h9, h10, h11, h12⟩ := h
  obtain ⟨k', hi', he⟩ := State.fieldFound?_setVm hvm h2
  exact ⟨c, k', i, f, a, cell, v, by rw [hvm.findClass]; exact h1, hi', h3, by rw [he]; exact h4, h5, h6, h7, h8, h9, by rw [he]; exact h10, h11, h12⟩
theorem am_TS.lays {B0 : Nat} {H0 : Heap} {n d : String} {U : State} {A : Array Value} (h : am_TS B0 H0 n d U) (hh : ∀ q : Nat, q < B0 → U.heap[q]? = H0[q]?) : (Cond.laysStatic Bundle.tN n d).before A U = true := by
  obtain ⟨c, k, i, f, a, cell, v, h1, h2, h3, h4, h5, h6, h7, h8, h9, h10, h11, h12⟩ := h
  simp [Cond.before, Cond.holds, Cond.value, h1, h2, h3, h4, hh a h5, h6, h7, h8, h9, h10]
theorem am_TS.ref {B0 : Nat} {H0 : Heap} {n d : String} {U : State} {A : Array Value} (h : am_TS B0 H0 n d U) (hh : ∀ q : Nat, q < B0 → U.heap[q]? = H0[q]?) : (Cond.isRef (.static Bundle.tN n d)).before A U = true := by
  obtain ⟨c, k, i, f, a, cell, v, h1, h2, h3, h4, h5, h6, h7, h8, h9, h10, h11, h12⟩ := h
  have e : (Term.static Bundle.tN n d).eval A U none [] U = some v := by
    simp [Term.eval, State.fieldNamed?, h2, h3, h4, hh a h5, h6, h7, h11]
  simp only [Cond.before, Cond.holds, Cond.value]
  rw [e]
  cases v <;> simp [am_isR] at h12 <;> rfl
def am_val (ci : Nat) : Bool := ci == 3 || ci == 17 || ci == 18 || ci == 19 || ci == 20 || ci == 22
def am_into (κ cv : Nat) : Bool := match κ with
  | 5 => cv == 2
  | 6 => cv == 31
  | 7 => cv == 11 || cv == 12 || cv == 13
  | 8 => am_val cv
  | 9 => cv == 21
  | 10 => cv == 5 || cv == 6 || cv == 7 || cv == 8 || cv == 9 || cv == 10 || cv == 14 || cv == 15
  | _ => false
def am_exc (ci : Nat) : Bool := decide (23 ≤ ci) && decide (ci < 28)
def am_sta : List (String × String × String) := [("FunDesk$Sort", "VARIABLE", "LFunDesk$Sort;"), ("FunDesk$Sort", "INT", "LFunDesk$Sort;"), ("FunDesk$Sort", "BOOL", "LFunDesk$Sort;"), ("FunDesk$Sort", "REAL", "LFunDesk$Sort;"), ("FunDesk$Sort", "LIST", "LFunDesk$Sort;"), ("FunDesk$Sort", "ARROW", "LFunDesk$Sort;"),
  ("FunDesk$Op", "NUMBER", "LFunDesk$Op;"), ("FunDesk$Op", "TRUTH", "LFunDesk$Op;"), ("FunDesk$Op", "REAL", "LFunDesk$Op;"), ("FunDesk$Op", "NIL", "LFunDesk$Op;"), ("FunDesk$Op", "BUILT", "LFunDesk$Op;"), ("FunDesk$Op", "LOAD", "LFunDesk$Op;"), ("FunDesk$Op", "CLOSE", "LFunDesk$Op;"), ("FunDesk$Op", "RETURN", "LFunDesk$Op;"), ("FunDesk$Op", "APPLY", "LFunDesk$Op;"), ("FunDesk$Op", "WORK", "LFunDesk$Op;"), ("FunDesk$Op", "BIND", "LFunDesk$Op;"), ("FunDesk$Op", "TIE", "LFunDesk$Op;"), ("FunDesk$Op", "DROP", "LFunDesk$Op;"), ("FunDesk$Op", "BRANCH", "LFunDesk$Op;"), ("FunDesk$Op", "JUMP", "LFunDesk$Op;"), ("FunDesk$Op", "LOOK", "LFunDesk$Op;"), ("FunDesk$Op", "TEST", "LFunDesk$Op;"), ("FunDesk$Op", "MISS", "LFunDesk$Op;")]
/-- the interfaces' methods: look, infer, compile of Expr; names, infer, fits of Pattern -/
def am_im (k : Nat) : MethodName := match k with
  | 0 => ⟨"FunDesk$Expr", "look", "(LFunDesk$Scope;)V"⟩
  | 1 => ⟨"FunDesk$Expr", "infer", "(LFunDesk;LFunDesk$Scope;)LFunDesk$Type;"⟩
  | 2 => ⟨"FunDesk$Expr", "compile", "(LFunDesk;LFunDesk$Scope;)V"⟩
  | 3 => ⟨"FunDesk$Pattern", "names", "(LFunDesk$Scope;)LFunDesk$Scope;"⟩
  | 4 => ⟨"FunDesk$Pattern", "infer", "(LFunDesk;)LFunDesk$Type;"⟩
  | _ => ⟨"FunDesk$Pattern", "fits", "(LFunDesk;LFunDesk$Value;)Z"⟩
def am_cn (ci : Nat) : String := (am_cl[ci]?.map (fun r => r.1)).getD ""
/-- which classes have which of them -/
def am_imp (k ci : Nat) : Bool := if k < 3 then am_into 10 ci else decide (k < 6) && am_into 7 ci
def am_en (U : State) (E : String) (c : ClassId) (i : Nat) : Prop := U.vm.findClass E = some c ∧ (∃ k, U.vm.classes[c]? = some k) ∧ SlotIs U "java/lang/Enum" "ordinal" "I" i
def am_K (dC : Nat → ClassId) (dI : Nat → Nat → Nat) (dA : Nat → ClassId) (ad : Nat → Nat) (B0 : Nat) (H0 : Heap) (U : State) : Prop :=
  am_KC dC dI U ∧ am_KA dA U ∧ (∀ w ∈ lw_tbl, am_okw w = true → va_Nw w U) ∧ (∀ k ci, am_imp k ci = true → va_Fw (am_cn ci) (am_im k) ⟨am_cn ci, (am_im k).name, (am_im k).desc⟩ U) ∧
  (∀ i q, am_sta[i]? = some q → va_Z q.1 q.2.1 q.2.2 (.ref (ad i)) (fun q => B0 ≤ q) U H0) ∧ am_TS B0 H0 "UNASSIGNED_STACK" Bundle.steD U ∧ am_TS B0 H0 "SUPPRESSED_SENTINEL" Bundle.listD U ∧
  (∀ κ cv C, am_tys[κ]? = some (.object C) → am_into κ cv = true → (∃ t, U.vm.findClass C = some t ∧ U.vm.assignable (dC cv) t = true) ∧ ∃ kv, U.vm.classes[dC cv]? = some kv) ∧
  (∀ ci T, am_val ci = true → am_val T = true → ci ≠ T → va_Nc (am_cn ci) (am_cn T) U) ∧ (∀ ci T, am_exc ci = true → am_exc T = true → U.vm.assignable (dC ci) (dC T) = decide (T = ci)) ∧
  am_en U "FunDesk$Sort" (dC 30) (dI 30 0) ∧ am_en U "FunDesk$Op" (dC 31) (dI 31 0)
theorem am_en.moved {E : String} {c : ClassId} {i : Nat} {u U : State} (hvm : u.vm.Alike U.vm) (h : am_en u E c i) : am_en U E c i := by
  obtain ⟨h1, ⟨k, hk⟩, h3⟩ := h
  obtain ⟨k', hk', -⟩ := hvm.2.2 _ _ hk
  exact ⟨by rw [hvm.findClass]; exact h1, ⟨k', hk'⟩, slotIs_moved hvm h3⟩
theorem am_im_ok (k : Nat) : (am_im k).cls ≠ "java/lang/invoke/MethodHandle" ∧ (am_im k).cls ≠ "java/lang/invoke/VarHandle" := by
  unfold am_im
  split <;> exact ⟨by decide, by decide⟩
theorem am_K.moved {dC : Nat → ClassId} {dI : Nat → Nat → Nat} {dA : Nat → ClassId} {ad : Nat → Nat} {B0 : Nat} {H0 : Heap} {s U : State} (hW : s.WarmedH U.vm) (h : am_K dC dI dA ad B0 H0 s) : am_K dC dI dA ad B0 H0 U := by
  obtain ⟨h1, h2, h3, h4, h5, h6, h7, h8, h9, h10, h11, h12⟩ := h
  have hvm := hW.alike
  refine ⟨fun ci q hq => u_Kn_moved hvm (h1 ci q hq), ⟨fun k ty hk => ⟨arrOfT_moved hvm (h2.1 k ty hk).1, (h2.1 k ty hk).2.moved hvm⟩, arrOfT_moved hvm h2.2⟩, fun w hw ho => am_okw_warm ho hW (h3 w hw ho), fun k ci hk => va_Fw.moved (am_im_ok k) hvm (h4 k ci hk), fun i q hq => (h5 i q hq).moved hvm, h6.moved hvm, h7.moved hvm, fun κ cv C hC hi => ?_, fun ci T a b n => (h9 ci T a b n).moved hvm, fun ci T a b => by rw [hvm.assignable]; exact h10 ci T a b, h11.moved hvm, h12.moved hvm⟩
  obtain ⟨⟨t, q1, q2⟩, kv, q3⟩ := h8 κ cv C hC hi
  obtain ⟨k', hk', -⟩ := hvm.2.2 _ _ q3
  exact ⟨⟨t, by rw [hvm.findClass]; exact q1, by rw [hvm.assignable]; exact q2⟩, k', hk'⟩
theorem am_K.same {dC : Nat → ClassId} {dI : Nat → Nat → Nat} {dA : Nat → ClassId} {ad : Nat → Nat} {B0 : Nat} {H0 : Heap} {s U : State} (hv : s.vm = U.vm) (h : am_K dC dI dA ad B0 H0 s) : am_K dC dI dA ad B0 H0 U := h.moved (hv ▸ State.WarmedH.refl s)
/-- the exceptions: the entry of <init> in FunDesk's constant pool, the class, those above it -/
def am_xi (ci : Nat) : Nat := match ci with
  | 23 => 213
  | 24 => 194
  | 25 => 120
  | 26 => 567
  | _ => 576
def am_xa (ci : Nat) : List Cond := Bundle.ownAtoms0 "FunDesk" (am_xi ci) (am_cn ci) ["java/lang/RuntimeException", "java/lang/Exception"]
def am_xchk (w : Cond) : Bool := (decide (w ∈ lw_tbl) && (goodWord w || am_okw w)) || decide (w = .laysStatic Bundle.tN "UNASSIGNED_STACK" Bundle.steD) || decide (w = .laysStatic Bundle.tN "SUPPRESSED_SENTINEL" Bundle.listD) || decide (w = .isRef (.static Bundle.tN "UNASSIGNED_STACK" Bundle.steD)) || decide (w = .isRef (.static Bundle.tN "SUPPRESSED_SENTINEL" Bundle.listD))
theorem am_xall23 : (am_xa 23).all am_xchk = true := by decide +kernel
theorem am_xall24 : (am_xa 24).all am_xchk = true := by decide +kernel
theorem am_xall25 : (am_xa 25).all am_xchk = true := by decide +kernel
theorem am_xall26 : (am_xa 26).all am_xchk = true := by decide +kernel
theorem am_xall27 : (am_xa 27).all am_xchk = true := by decide +kernel
