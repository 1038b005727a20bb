/-! THE SMALL MACHINE, 3: its heap. am_C: a cell: an array (kind, length, contents) or an object (class, fields). am_H: cells by address, the next address, how many slots have been made. am_Rel: the machine's heap holds it. -/
set_option maxRecDepth 100000
abbrev am_C : Type := (Nat × Nat × (Nat → Value)) ⊕ (Nat × List Value)
abbrev am_H : Type := (Nat → Option am_C) × Nat × Nat
def am_up (h : am_H) (a : Nat) (x : am_C) : am_H := (fun b => if b = a then some x else h.1 b, h.2)
def am_nw (h : am_H) (x : am_C) (n : Nat) : am_H := (fun b => if b = h.2.1 then some x else h.1 b, h.2.1 + 1, h.2.2 + n)
def am_tys : List FieldType := [.char, .int, .boolean, .long, .double, .object "FunDesk$Type", .object "FunDesk$Op", .object "FunDesk$Pattern", .object "FunDesk$Value", .object "FunDesk$Env", .object "FunDesk$Expr"]
def am_wr (x : am_C) : Bool := match x with
  | .inl q => decide (q.1 < 20)
  | .inr q => decide (q.1 < 28)
def am_at (dC : Nat → ClassId) (dI : Nat → Nat → Nat) (dA : Nat → ClassId) (a : Nat) (x : am_C) (H : Heap) : Prop := match x with
  | .inl q => ∃ cell : Cell, H[a]? = some cell ∧ cell.cls = dA q.1 ∧ cell.vm ≠ .unknown ∧ (∀ k, cell.vm ≠ .statics k) ∧ cell.slots.size = q.2.1 ∧ ∀ j, j < q.2.1 → cell.slots[j]? = some (q.2.2 j)
  | .inr q => ∃ cell : Cell, H[a]? = some cell ∧ cell.cls = dC q.1 ∧ cell.vm ≠ .unknown ∧ (∀ k, cell.vm ≠ .statics k) ∧ (q.1 < 28 → cell.vm = .none) ∧ ∀ k v, q.2[k]? = some v → cell.slots[dI q.1 k]? = some v
def am_Rel (dC : Nat → ClassId) (dI : Nat → Nat → Nat) (dA : Nat → ClassId) (B0 : Nat) (H0 : Heap) (h : am_H) (H : Heap) : Prop :=
  H.size = h.2.1 ∧ B0 ≤ h.2.1 ∧ (∀ q : Nat, q < B0 → H[q]? = H0[q]?) ∧ ∀ a x, h.1 a = some x → am_at dC dI dA a x H ∧ (am_wr x = true → B0 ≤ a)
def am_KC (dC : Nat → ClassId) (dI : Nat → Nat → Nat) (U : State) : Prop := ∀ (ci : Nat) (q : vw_C), am_cl[ci]? = some q → u_Kn U q.1 q.2.1 q.2.2 (dC ci) (dI ci)
def am_KA (dA : Nat → ClassId) (U : State) : Prop := (∀ (k : Nat) (ty : FieldType), am_tys[k]? = some ty → ArrOfT U (dA k) ty ∧ va_RA U (dA k) ty) ∧ ArrOfT U (dA 20) .int
def am_fld (q : Nat) : String × String × String × Bool := match am_cl[q / 128]? with
  | some r => r.2.1 (q % 128)
  | none => ("", "", "", false)
theorem am_at.kept {dC : Nat → ClassId} {dI : Nat → Nat → Nat} {dA : Nat → ClassId} {a : Nat} {x : am_C} {H H1 : Heap} (h : am_at dC dI dA a x H) (hq : H1[a]? = H[a]?) : am_at dC dI dA a x H1 := by
  cases x with
  | inl q => obtain ⟨cell, h1, h2⟩ := h; exact ⟨cell, hq.trans h1, h2⟩
  | inr q => obtain ⟨cell, h1, h2⟩ := h; exact ⟨cell, hq.trans h1, h2⟩
theorem am_at.lt {dC : Nat → ClassId} {dI : Nat → Nat → Nat} {dA : Nat → ClassId} {a : Nat} {x : am_C} {H : Heap} (h : am_at dC dI dA a x H) : a < H.size := by
  cases x with
  | inl q => obtain ⟨cell, h1, h2⟩ := h; exact (Array.getElem?_eq_some_iff.mp h1).1
  | inr q => obtain ⟨cell, h1, h2⟩ := h; exact (Array.getElem?_eq_some_iff.mp h1).1
theorem am_Rel.set {dC : Nat → ClassId} {dI : Nat → Nat → Nat} {dA : Nat → ClassId} {B0 : Nat} {H0 H H1 : Heap} {h : am_H} {a : Nat} {x x' : am_C} (r : am_Rel dC dI dA B0 H0 h H) (ha : h.1 a = some x) (hw : am_wr x = true) (hx : am_at dC dI dA a x' H1) (hs : H1.size = H.size) (ho : ∀ q, q ≠ a → H1[q]? = H[q]?) : am_Rel dC dI dA B0 H0 (am_up h a x') H1 := by
  obtain ⟨r1, r2, r3, r4⟩ := r
  have hB := (r4 a x ha).2 hw
  refine ⟨hs.trans r1, r2, fun q hq => (ho q (by omega)).trans (r3 q hq), fun b y hb => ?_⟩
  by_cases e : b = a
  · subst e
    simp only [am_up, if_true] at hb
    cases hb
    exact ⟨hx, fun _ => hB⟩
  · simp only [am_up, if_neg e] at hb
    exact ⟨(r4 b y hb).1.kept (ho b e), (r4 b y hb).2⟩
theorem am_Rel.new {dC : Nat → ClassId} {dI : Nat → Nat → Nat} {dA : Nat → ClassId} {B0 : Nat} {H0 H H1 : Heap} {h : am_H} {x : am_C} {n : Nat} (r : am_Rel dC dI dA B0 H0 h H) (hx : am_at dC dI dA h.2.1 x H1) (hs : H1.size = h.2.1 + 1) (ho : ∀ q, q < h.2.1 → H1[q]? = H[q]?) : am_Rel dC dI dA B0 H0 (am_nw h x n) H1 := by
  obtain ⟨r1, r2, r3, r4⟩ := r
  refine ⟨hs, Nat.le_succ_of_le r2, fun q hq => (ho q (by omega)).trans (r3 q hq), fun b y hb => ?_⟩
  by_cases e : b = h.2.1
  · subst e
    simp only [am_nw, if_true] at hb
    cases hb
    exact ⟨hx, fun _ => r2⟩
  · simp only [am_nw, if_neg e] at hb
    have h5 := (r4 b y hb).1.lt
    exact ⟨(r4 b y hb).1.kept (ho b (by omega)), (r4 b y hb).2⟩
theorem am_arr {U : State} {cA : ClassId} {ty : FieldType} (h : ArrOfT U cA ty) {cell : Cell} (h1 : cell.cls = cA) (h2 : ∀ k, cell.vm ≠ .statics k) : U.isArrayOf cell ty := by
  obtain ⟨-, k, hk, hh⟩ := h 0 (fun _ => .null)
  exact ⟨h2, k, by rw [h1]; exact hk, hh⟩
def am_fit (ty : FieldType) (v : Value) : Prop := narrow ty v = v ∧ fits ty v = true
section AM3
variable {p : Program} {l : Launch} {e : Env} {R : Room} {s : State} {m : MethodId} {args : Array Value} {below : List Frame} {meth : Method} {c : Code} {H : Heap} {locs : List Loc} {cells slots : Nat} {Q : State → Prop} {cc : ByteArray} {pc : Nat} {ls : Array Slot} {dC : Nat → ClassId} {dI : Nat → Nat → Nat} {dA : Nat → ClassId} {B0 : Nat} {H0 : Heap} {h : am_H} {T : List Value} {own : String} {idx : Nat}
theorem am_fldOk {q : Nat} {r : vw_C} (hr : am_cl[q / 128]? = some r) : am_fld q = r.2.1 (q % 128) := by
  unfold am_fld; rw [hr]
theorem am_getfW (hx : p.tables.exec = Jvm.exec) (hb : c.code = cc) (hts : ∀ w ∈ lw_all, w.before args s = true) (hown : s.vm.findClass own = some m.cls) (hK : am_KC dC dI s) (hR : am_Rel dC dI dA B0 H0 h H) {q a : Nat} {fs : List Value} {v : Value} {r : vw_C} (hr : am_cl[q / 128]? = some r) (hk : q % 128 < r.2.2)
    (hl : (Cond.fieldLink own idx (am_fld q).1 (am_fld q).2.1 (am_fld q).2.2.1).before args s = true) (ha : h.1 a = some (.inr (q / 128, fs))) (hv : fs[q % 128]? = some v) (hd : decode cc pc = .ok (.getfield idx, 3))
    (k : W p l e R s m args below meth c H locs cells slots Q (F0 m (pc + 3) ls (v :: T))) : W p l e R s m args below meth c H locs cells slots Q (F0 m pc ls (.ref a :: T)) := by
  obtain ⟨⟨cell, q1, q2, q3, -, -, q4⟩, -⟩ := hR.2.2.2 _ _ ha
  obtain ⟨hS, hfc, kC, hkC, hkind⟩ := hK _ _ hr
  obtain ⟨cf, kf, fi, f, hi, hsl⟩ := hS _ hk
  rw [am_fldOk hr] at hl
  refine W.getf hx hb hown hl hi (u_facts hfc hkC (u_lays hts (am_clAll _ _ hr).1 hk) hi).1 q1 q3 (v := v) ?_ rfl rfl hd k
  rw [hsl]
  exact q4 _ _ hv
theorem am_setSlot {cell : Cell} {i j : Nat} {v w : Value} (h : cell.slots[j]? = some w) : (cell.setSlot i v).slots[j]? = some (if j = i then v else w) := by
  have hj := (Array.getElem?_eq_some_iff.mp h).1
  show (cell.slots.setIfInBounds i v)[j]? = _
  by_cases e : j = i
  · subst e
    rw [if_pos rfl]
    simp [hj]
  · rw [if_neg e, Array.getElem?_setIfInBounds_ne (fun q => e q.symm)]
    exact h
theorem am_putAt {q a : Nat} {fs : List Value} {v : Value} {r : vw_C} {cell : Cell} {H' : Heap} (hts : ∀ w ∈ lw_all, w.before args s = true) (hK : am_KC dC dI s) (hr : am_cl[q / 128]? = some r) (hk : q % 128 < r.2.2) (hlen : fs.length = r.2.2)
    (q2 : cell.cls = dC (q / 128)) (q3 : cell.vm ≠ .unknown) (q3' : ∀ k, cell.vm ≠ .statics k) (q3n : q / 128 < 28 → cell.vm = .none) (q4 : ∀ k v, fs[k]? = some v → cell.slots[dI (q / 128) k]? = some v) (e1 : H'[a]? = some (cell.setSlot (dI (q / 128) (q % 128)) v)) : am_at dC dI dA a (.inr (q / 128, fs.set (q % 128) v)) H' := by
  refine ⟨_, e1, q2, q3, q3', q3n, fun k w hw => ?_⟩
  have hkl : k < fs.length := by
    have := (List.getElem?_eq_some_iff.mp hw).1
    simpa using this
  obtain ⟨w0, hw0⟩ : ∃ w0, fs[k]? = some w0 := ⟨_, List.getElem?_eq_getElem hkl⟩
  rw [am_setSlot (q4 k w0 hw0)]
  rw [List.getElem?_set] at hw
  have hcl := am_clAll _ _ hr
  have hap : k ≠ q % 128 → dI (q / 128) k ≠ dI (q / 128) (q % 128) := by
    intro hne
    obtain ⟨hS, -⟩ := hK _ _ hr
    obtain ⟨_, _, _, fa, hia, ea⟩ := hS k (by omega)
    obtain ⟨_, _, _, fb, hib, eb⟩ := hS _ hk
    rw [← ea, ← eb]
    refine u_apart (u_lays hts hcl.1 (by omega : k < r.2.2)) (u_lays hts hcl.1 hk) hia hib ?_
    rw [(State.fieldFound?_type hia (hcl.2.1 k (by omega))).1, (State.fieldFound?_type hib (hcl.2.1 _ hk)).1]
    exact hcl.2.2.1 k (by omega) _ hk hne
  by_cases e : q % 128 = k
  · rw [if_pos e] at hw
    rw [if_pos (by rw [e])]
    rw [if_pos (by omega)] at hw
    exact hw
  · rw [if_neg e] at hw
    rw [if_neg (hap (fun x => e x.symm))]
    exact hw0.symm.trans hw
theorem am_putfW (hx : p.tables.exec = Jvm.exec) (hb : c.code = cc) (hts : ∀ w ∈ lw_all, w.before args s = true) (hown : s.vm.findClass own = some m.cls) (hK : am_KC dC dI s) (hR : am_Rel dC dI dA B0 H0 h H) (hlo : ∀ q ∈ locs, B0 ≤ q.base) {q a : Nat} {fs : List Value} {v : Value} {r : vw_C} (hr : am_cl[q / 128]? = some r) (hk : q % 128 < r.2.2) (h28 : q / 128 < 28) (hlen : fs.length = r.2.2)
    (hl : (Cond.fieldLink own idx (am_fld q).1 (am_fld q).2.1 (am_fld q).2.2.1).before args s = true) (hfin : (am_fld q).2.2.2 = false ∨ ((am_fld q).2.2.2 = true ∧ meth.name = "<init>" ∧ (am_fld q).1 = own)) (ha : h.1 a = some (.inr (q / 128, fs))) (hfit : am_fit (am_fty (q / 128) (q % 128)) v) (hd : decode cc pc = .ok (.putfield idx, 3))
    (k : ∀ H' locs', am_Rel dC dI dA B0 H0 (am_up h a (.inr (q / 128, fs.set (q % 128) v))) H' → (∀ q ∈ locs', B0 ≤ q.base) → W p l e R s m args below meth c H' locs' cells slots Q (F0 m (pc + 3) ls T)) : W p l e R s m args below meth c H locs cells slots Q (F0 m pc ls (v :: .ref a :: T)) := by
  have hwr : am_wr (.inr (q / 128, fs)) = true := decide_eq_true h28
  obtain ⟨⟨cell, q1, q2, q3, q3', q3n, q4⟩, hB⟩ := hR.2.2.2 _ _ ha
  obtain ⟨hS, hfc, kC, hkC, hkind⟩ := hK _ _ hr
  obtain ⟨cf, kf, fi, f, hi, hsl⟩ := hS _ hk
  have hcl := am_clAll _ _ hr
  obtain ⟨w0, hw0⟩ : ∃ w0, fs[q % 128]? = some w0 := ⟨_, List.getElem?_eq_getElem (by omega)⟩
  have hslot := q4 _ _ hw0
  have hlt : f.slot < cell.slots.size := by rw [hsl]; exact (Array.getElem?_eq_some_iff.mp hslot).1
  rw [am_fldOk hr] at hl hfin
  have fin : ∀ H' : Heap, H'[a]? = some (cell.setSlot f.slot v) → H'.size = H.size → (∀ q, q ≠ a → H'[q]? = H[q]?) → W p l e R s m args below meth c H' (locs ++ [⟨a, f.slot⟩]) cells slots Q (F0 m (pc + 3) ls T) := by
    intro H' e1 e2 e3
    rw [hsl] at e1 ⊢
    refine k H' _ (hR.set ha hwr (am_putAt hts hK hr hk hlen q2 q3 q3' q3n q4 e1) e2 e3) (fun z hz => ?_)
    rcases List.mem_append.mp hz with hz | hz
    · exact hlo z hz
    · rw [List.mem_singleton.mp hz]; exact hB hwr
  rcases hfin with hf | ⟨ht, hn, ho⟩
  · have hlay := hts _ (hcl.1 _ (u_in_lay hk))
    unfold u_lay at hlay
    rw [if_neg (by rw [hf]; decide)] at hlay
    have h6 := u_store hfc hkC hkind hlay hi (hcl.2.1 _ hk) hfit.1 hfit.2
    exact W.putK hx hb (f := f) ⟨hown, hl, ⟨_, _, _, hi⟩, (u_facts hfc hkC (u_lays hts hcl.1 hk) hi).1⟩ (by rw [q2]; exact h6) q1 (q3n h28) hlt rfl rfl hd fin
  · have hlay := hts _ (hcl.1 _ (u_in_lay hk))
    unfold u_lay at hlay
    rw [if_pos ht] at hlay
    have hcf : m.cls = cf := by
      obtain ⟨_, _, c', _, _, _, -, -, hf', -, -, -, hown2, -⟩ := Cond.laysFinal_spec hlay
      have e1 : c' = cf := by have := hi.symm.trans hf'; simp at this; exact this.1.symm
      rw [ho] at hown2
      rw [← e1]; exact Option.some.inj (hown.symm.trans hown2)
    exact W.putFinK hx hb hown hl hi (u_facts hfc hkC (u_lays hts hcl.1 hk) hi).1 hcf hn (by rw [q2]; exact u_fits hfc hkC hkind (u_lays hts hcl.1 hk) hi (hcl.2.1 _ hk) hfit.1 hfit.2) q1 (q3n h28) hlt rfl rfl hd fin
end AM3
