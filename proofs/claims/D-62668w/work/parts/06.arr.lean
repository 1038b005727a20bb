/-! THE SMALL MACHINE, 4: arrays, new cells, fields of nest mates, statics, casts -/
set_option maxRecDepth 100000
section AM4
variable {p : Program} {l : Launch} {e : Env} {R : Room} {s : State} {m : MethodId} {args : Array Value} {below : List Frame} {meth : Method} {c : Code} {H : Heap} {locs : List Loc} {cells slots : Nat} {Q : State → Prop} {cc : ByteArray} {pc : Nat} {ls : Array Slot} {dC : Nat → ClassId} {dI : Nat → Nat → Nat} {dA : Nat → ClassId} {B0 : Nat} {H0 : Heap} {h : am_H} {T : List Value} {own : String} {idx : Nat}
theorem am_astAt {κ n j a : Nat} {f : Nat → Value} {v : Value} {cell : Cell} {H' : Heap} (h1 : cell.cls = dA κ) (h2 : cell.vm ≠ .unknown) (h3 : ∀ k, cell.vm ≠ .statics k) (h4 : cell.slots.size = n) (h5 : ∀ j, j < n → cell.slots[j]? = some (f j)) (e1 : H'[a]? = some (cell.setSlot j v)) : am_at dC dI dA a (.inl (κ, n, updV f j v)) H' := by
  refine ⟨_, e1, h1, h2, h3, ?_, fun i hi => ?_⟩
  · show (cell.slots.setIfInBounds j v).size = n
    simp [h4]
  · rw [am_setSlot (h5 i hi)]
    rfl
theorem am_inN {i : Int32} {n : Nat} {cell : Cell} (h : vp_in i n) (hs : cell.slots.size = n) : ¬ (i < 0 ∨ cell.slots.size ≤ i.toNatClampNeg) := by rw [hs]; exact h
theorem am_inL {i : Int32} {n : Nat} (h : vp_in i n) : i.toNatClampNeg < n := Nat.not_le.mp fun q => h (Or.inr q)
theorem am_lo {a j : Nat} (hlo : ∀ q ∈ locs, B0 ≤ q.base) (h : B0 ≤ a) : ∀ q ∈ locs ++ [(⟨a, j⟩ : Loc)], B0 ≤ q.base := by
  intro z hz
  rcases List.mem_append.mp hz with hz | hz
  · exact hlo z hz
  · rw [List.mem_singleton.mp hz]; exact h
theorem am_ialdW (hx : p.tables.exec = Jvm.exec) (hb : c.code = cc) (hR : am_Rel dC dI dA B0 H0 h H) {κ n a : Nat} {f : Nat → Value} {i : Int32} (hK : ArrOfT s (dA κ) .int) (ha : h.1 a = some (.inl (κ, n, f))) (hin : vp_in i n) (hd : decode cc pc = .ok (.iaload, 1))
    (k : W p l e R s m args below meth c H locs cells slots Q (F0 m (pc + 1) ls (f i.toNatClampNeg :: T))) : W p l e R s m args below meth c H locs cells slots Q (F0 m pc ls (.int i :: .ref a :: T)) := by
  obtain ⟨⟨cell, q1, q2, q3, q4, q5, q6⟩, -⟩ := hR.2.2.2 _ _ ha
  exact W.iald hx hb q1 (am_arr hK q2 q4) q3 (am_inN hin q5) (q6 _ (am_inL hin)) rfl rfl hd k
theorem am_caldW (hx : p.tables.exec = Jvm.exec) (hb : c.code = cc) (hR : am_Rel dC dI dA B0 H0 h H) {κ n a : Nat} {f : Nat → Value} {i : Int32} (hK : ArrOfT s (dA κ) .char) (ha : h.1 a = some (.inl (κ, n, f))) (hin : vp_in i n) (hd : decode cc pc = .ok (.caload, 1))
    (k : W p l e R s m args below meth c H locs cells slots Q (F0 m (pc + 1) ls (f i.toNatClampNeg :: T))) : W p l e R s m args below meth c H locs cells slots Q (F0 m pc ls (.int i :: .ref a :: T)) := by
  obtain ⟨⟨cell, q1, q2, q3, q4, q5, q6⟩, -⟩ := hR.2.2.2 _ _ ha
  exact W.cald hx hb q1 (am_arr hK q2 q4) q3 (am_inN hin q5) (q6 _ (am_inL hin)) rfl rfl hd k
theorem am_zaldW (hx : p.tables.exec = Jvm.exec) (hb : c.code = cc) (hR : am_Rel dC dI dA B0 H0 h H) {κ n a : Nat} {f : Nat → Value} {i : Int32} (hK : ArrOfT s (dA κ) .boolean) (ha : h.1 a = some (.inl (κ, n, f))) (hin : vp_in i n) (hd : decode cc pc = .ok (.baload, 1))
    (k : W p l e R s m args below meth c H locs cells slots Q (F0 m (pc + 1) ls (f i.toNatClampNeg :: T))) : W p l e R s m args below meth c H locs cells slots Q (F0 m pc ls (.int i :: .ref a :: T)) := by
  obtain ⟨⟨cell, q1, q2, q3, q4, q5, q6⟩, -⟩ := hR.2.2.2 _ _ ha
  exact W.zald hx hb q1 (am_arr hK q2 q4) q3 (am_inN hin q5) (q6 _ (am_inL hin)) rfl rfl hd k
theorem am_laldW (hx : p.tables.exec = Jvm.exec) (hb : c.code = cc) (hR : am_Rel dC dI dA B0 H0 h H) {κ n a : Nat} {f : Nat → Value} {i : Int32} (hK : ArrOfT s (dA κ) .long) (ha : h.1 a = some (.inl (κ, n, f))) (hin : vp_in i n) (hd : decode cc pc = .ok (.laload, 1))
    (k : W p l e R s m args below meth c H locs cells slots Q (F0 m (pc + 1) ls (f i.toNatClampNeg :: T))) : W p l e R s m args below meth c H locs cells slots Q (F0 m pc ls (.int i :: .ref a :: T)) := by
  obtain ⟨⟨cell, q1, q2, q3, q4, q5, q6⟩, -⟩ := hR.2.2.2 _ _ ha
  exact W.lald hx hb q1 (am_arr hK q2 q4) q3 (am_inN hin q5) (q6 _ (am_inL hin)) rfl rfl hd k
theorem am_daldW (hx : p.tables.exec = Jvm.exec) (hb : c.code = cc) (hR : am_Rel dC dI dA B0 H0 h H) {κ n a : Nat} {f : Nat → Value} {i : Int32} (hK : ArrOfT s (dA κ) .double) (ha : h.1 a = some (.inl (κ, n, f))) (hin : vp_in i n) (hd : decode cc pc = .ok (.daload, 1))
    (k : W p l e R s m args below meth c H locs cells slots Q (F0 m (pc + 1) ls (f i.toNatClampNeg :: T))) : W p l e R s m args below meth c H locs cells slots Q (F0 m pc ls (.int i :: .ref a :: T)) := by
  obtain ⟨⟨cell, q1, q2, q3, q4, q5, q6⟩, -⟩ := hR.2.2.2 _ _ ha
  exact W.dald hx hb q1 (am_arr hK q2 q4) q3 (am_inN hin q5) (q6 _ (am_inL hin)) rfl rfl hd k
theorem am_aaldW (hx : p.tables.exec = Jvm.exec) (hb : c.code = cc) (hR : am_Rel dC dI dA B0 H0 h H) {κ n a : Nat} {f : Nat → Value} {i : Int32} {ty : FieldType} (hK : ArrOfT s (dA κ) ty) (hty : ty.isReference = true) (ha : h.1 a = some (.inl (κ, n, f))) (hin : vp_in i n) (hd : decode cc pc = .ok (.aaload, 1))
    (k : W p l e R s m args below meth c H locs cells slots Q (F0 m (pc + 1) ls (f i.toNatClampNeg :: T))) : W p l e R s m args below meth c H locs cells slots Q (F0 m pc ls (.int i :: .ref a :: T)) := by
  obtain ⟨⟨cell, q1, q2, q3, q4, q5, q6⟩, -⟩ := hR.2.2.2 _ _ ha
  exact W.aald hx hb q1 (am_arr hK q2 q4) hty q3 (am_inN hin q5) (q6 _ (am_inL hin)) rfl rfl hd k
theorem am_alenW (hx : p.tables.exec = Jvm.exec) (hb : c.code = cc) (hR : am_Rel dC dI dA B0 H0 h H) {κ n a : Nat} {f : Nat → Value} {ty : FieldType} (hK : ArrOfT s (dA κ) ty) (ha : h.1 a = some (.inl (κ, n, f))) (hd : decode cc pc = .ok (.arraylength, 1))
    (k : W p l e R s m args below meth c H locs cells slots Q (F0 m (pc + 1) ls (.int n.toInt32 :: T))) : W p l e R s m args below meth c H locs cells slots Q (F0 m pc ls (.ref a :: T)) := by
  obtain ⟨⟨cell, q1, q2, q3, q4, q5, q6⟩, -⟩ := hR.2.2.2 _ _ ha
  exact W.alen hx hb q1 (am_arr hK q2 q4) (by rw [q5]) rfl rfl hd k
theorem am_iastW (hx : p.tables.exec = Jvm.exec) (hb : c.code = cc) (hR : am_Rel dC dI dA B0 H0 h H) (hlo : ∀ q ∈ locs, B0 ≤ q.base) {κ n a : Nat} {f : Nat → Value} {i : Int32} {x : Int32} (hK : ArrOfT s (dA κ) .int) (h20 : κ < 20) (ha : h.1 a = some (.inl (κ, n, f))) (hin : vp_in i n) (hd : decode cc pc = .ok (.iastore, 1))
    (k : ∀ H' locs', am_Rel dC dI dA B0 H0 (am_up h a (.inl (κ, n, updV f i.toNatClampNeg (.int x)))) H' → (∀ q ∈ locs', B0 ≤ q.base) → W p l e R s m args below meth c H' locs' cells slots Q (F0 m (pc + 1) ls T)) : W p l e R s m args below meth c H locs cells slots Q (F0 m pc ls (.int x :: .int i :: .ref a :: T)) := by
  obtain ⟨⟨cell, q1, q2, q3, q4, q5, q6⟩, hB⟩ := hR.2.2.2 _ _ ha
  have hwr : am_wr (.inl (κ, n, f)) = true := decide_eq_true h20
  refine W.iast hx hb q1 (am_arr hK q2 q4) q3 (am_inN hin q5) rfl rfl hd fun H' e1 e2 e3 => ?_
  exact k H' _ (hR.set ha hwr (am_astAt q2 q3 q4 q5 q6 e1) e2 e3) (am_lo hlo (hB hwr))
theorem am_castW (hx : p.tables.exec = Jvm.exec) (hb : c.code = cc) (hR : am_Rel dC dI dA B0 H0 h H) (hlo : ∀ q ∈ locs, B0 ≤ q.base) {κ n a : Nat} {f : Nat → Value} {i : Int32} {x : Int32} (hK : ArrOfT s (dA κ) .char) (h20 : κ < 20) (ha : h.1 a = some (.inl (κ, n, f))) (hin : vp_in i n) (hn : narrow .char (.int x) = .int x) (hd : decode cc pc = .ok (.castore, 1))
    (k : ∀ H' locs', am_Rel dC dI dA B0 H0 (am_up h a (.inl (κ, n, updV f i.toNatClampNeg (.int x)))) H' → (∀ q ∈ locs', B0 ≤ q.base) → W p l e R s m args below meth c H' locs' cells slots Q (F0 m (pc + 1) ls T)) : W p l e R s m args below meth c H locs cells slots Q (F0 m pc ls (.int x :: .int i :: .ref a :: T)) := by
  obtain ⟨⟨cell, q1, q2, q3, q4, q5, q6⟩, hB⟩ := hR.2.2.2 _ _ ha
  have hwr : am_wr (.inl (κ, n, f)) = true := decide_eq_true h20
  refine W.cast hx hb q1 (am_arr hK q2 q4) q3 (am_inN hin q5) rfl rfl hd fun H' e1 e2 e3 => ?_
  rw [hn] at e1; exact k H' _ (hR.set ha hwr (am_astAt q2 q3 q4 q5 q6 e1) e2 e3) (am_lo hlo (hB hwr))
theorem am_zastW (hx : p.tables.exec = Jvm.exec) (hb : c.code = cc) (hR : am_Rel dC dI dA B0 H0 h H) (hlo : ∀ q ∈ locs, B0 ≤ q.base) {κ n a : Nat} {f : Nat → Value} {i : Int32} {x : Int32} (hK : ArrOfT s (dA κ) .boolean) (h20 : κ < 20) (ha : h.1 a = some (.inl (κ, n, f))) (hin : vp_in i n) (hn : narrow .boolean (.int x) = .int x) (hd : decode cc pc = .ok (.bastore, 1))
    (k : ∀ H' locs', am_Rel dC dI dA B0 H0 (am_up h a (.inl (κ, n, updV f i.toNatClampNeg (.int x)))) H' → (∀ q ∈ locs', B0 ≤ q.base) → W p l e R s m args below meth c H' locs' cells slots Q (F0 m (pc + 1) ls T)) : W p l e R s m args below meth c H locs cells slots Q (F0 m pc ls (.int x :: .int i :: .ref a :: T)) := by
  obtain ⟨⟨cell, q1, q2, q3, q4, q5, q6⟩, hB⟩ := hR.2.2.2 _ _ ha
  have hwr : am_wr (.inl (κ, n, f)) = true := decide_eq_true h20
  refine W.zast hx hb q1 (am_arr hK q2 q4) q3 (am_inN hin q5) rfl rfl hd fun H' e1 e2 e3 => ?_
  rw [hn] at e1; exact k H' _ (hR.set ha hwr (am_astAt q2 q3 q4 q5 q6 e1) e2 e3) (am_lo hlo (hB hwr))
theorem am_lastW (hx : p.tables.exec = Jvm.exec) (hb : c.code = cc) (hR : am_Rel dC dI dA B0 H0 h H) (hlo : ∀ q ∈ locs, B0 ≤ q.base) {κ n a : Nat} {f : Nat → Value} {i : Int32} {x : Int64} (hK : ArrOfT s (dA κ) .long) (h20 : κ < 20) (ha : h.1 a = some (.inl (κ, n, f))) (hin : vp_in i n) (hd : decode cc pc = .ok (.lastore, 1))
    (k : ∀ H' locs', am_Rel dC dI dA B0 H0 (am_up h a (.inl (κ, n, updV f i.toNatClampNeg (.long x)))) H' → (∀ q ∈ locs', B0 ≤ q.base) → W p l e R s m args below meth c H' locs' cells slots Q (F0 m (pc + 1) ls T)) : W p l e R s m args below meth c H locs cells slots Q (F0 m pc ls (.long x :: .int i :: .ref a :: T)) := by
  obtain ⟨⟨cell, q1, q2, q3, q4, q5, q6⟩, hB⟩ := hR.2.2.2 _ _ ha
  have hwr : am_wr (.inl (κ, n, f)) = true := decide_eq_true h20
  refine W.last hx hb q1 (am_arr hK q2 q4) q3 (am_inN hin q5) rfl rfl hd fun H' e1 e2 e3 => ?_
  exact k H' _ (hR.set ha hwr (am_astAt q2 q3 q4 q5 q6 e1) e2 e3) (am_lo hlo (hB hwr))
theorem am_dastW (hx : p.tables.exec = Jvm.exec) (hb : c.code = cc) (hR : am_Rel dC dI dA B0 H0 h H) (hlo : ∀ q ∈ locs, B0 ≤ q.base) {κ n a : Nat} {f : Nat → Value} {i : Int32} {x : UInt64} (hK : ArrOfT s (dA κ) .double) (h20 : κ < 20) (ha : h.1 a = some (.inl (κ, n, f))) (hin : vp_in i n) (hd : decode cc pc = .ok (.dastore, 1))
    (k : ∀ H' locs', am_Rel dC dI dA B0 H0 (am_up h a (.inl (κ, n, updV f i.toNatClampNeg (.double x)))) H' → (∀ q ∈ locs', B0 ≤ q.base) → W p l e R s m args below meth c H' locs' cells slots Q (F0 m (pc + 1) ls T)) : W p l e R s m args below meth c H locs cells slots Q (F0 m pc ls (.double x :: .int i :: .ref a :: T)) := by
  obtain ⟨⟨cell, q1, q2, q3, q4, q5, q6⟩, hB⟩ := hR.2.2.2 _ _ ha
  have hwr : am_wr (.inl (κ, n, f)) = true := decide_eq_true h20
  refine W.dast hx hb q1 (am_arr hK q2 q4) q3 (am_inN hin q5) rfl rfl hd fun H' e1 e2 e3 => ?_
  exact k H' _ (hR.set ha hwr (am_astAt q2 q3 q4 q5 q6 e1) e2 e3) (am_lo hlo (hB hwr))
theorem am_aastW (hx : p.tables.exec = Jvm.exec) (hb : c.code = cc) (hR : am_Rel dC dI dA B0 H0 h H) (hlo : ∀ q ∈ locs, B0 ≤ q.base) {κ n a v cv : Nat} {f : Nat → Value} {i : Int32} {C : String} {fs : List Value} (hRA : va_RA s (dA κ) (.object C)) (hasg : ∃ t, s.vm.findClass C = some t ∧ s.vm.assignable (dC cv) t = true) (hcv : ∃ kv, s.vm.classes[dC cv]? = some kv) (h20 : κ < 20) (ha : h.1 a = some (.inl (κ, n, f))) (hv : h.1 v = some (.inr (cv, fs))) (hin : vp_in i n) (hd : decode cc pc = .ok (.aastore, 1))
    (k : ∀ H' locs', am_Rel dC dI dA B0 H0 (am_up h a (.inl (κ, n, updV f i.toNatClampNeg (.ref v)))) H' → (∀ q ∈ locs', B0 ≤ q.base) → W p l e R s m args below meth c H' locs' cells slots Q (F0 m (pc + 1) ls T)) : W p l e R s m args below meth c H locs cells slots Q (F0 m pc ls (.ref v :: .int i :: .ref a :: T)) := by
  obtain ⟨⟨cell, q1, q2, q3, q4, q5, q6⟩, hB⟩ := hR.2.2.2 _ _ ha
  have hwr : am_wr (.inl (κ, n, f)) = true := decide_eq_true h20
  obtain ⟨⟨cv', g1, g2, g3, g4, -⟩, -⟩ := hR.2.2.2 _ _ hv
  obtain ⟨kA, comp, k1, k2, k3, -⟩ := hRA
  obtain ⟨t, ht, hat⟩ := hasg
  cases k3.symm.trans ht
  obtain ⟨kE, hkE, -⟩ := Vm.findClass_spec k3
  obtain ⟨kv, hkv⟩ := hcv
  have hn : ¬ i < 0 := fun q => hin (Or.inl q)
  refine W.aast hx hb q1 q4 q3 (by rw [q2]; exact k1) k2 rfl hkE ⟨hn, by rw [q5]; exact am_inL hin⟩ g1 g4 (by rw [g2]; exact hkv) (by rw [g2]; exact hat) rfl rfl hd fun H' e1 e2 e3 => ?_
  exact k H' _ (hR.set ha hwr (am_astAt q2 q3 q4 q5 q6 e1) e2 e3) (am_lo hlo (hB hwr))
theorem am_aastNW (hx : p.tables.exec = Jvm.exec) (hb : c.code = cc) (hR : am_Rel dC dI dA B0 H0 h H) (hlo : ∀ q ∈ locs, B0 ≤ q.base) {κ n a : Nat} {f : Nat → Value} {i : Int32} {C : String} (hK : ArrOfT s (dA κ) (.object C)) (h20 : κ < 20) (ha : h.1 a = some (.inl (κ, n, f))) (hin : vp_in i n) (hd : decode cc pc = .ok (.aastore, 1))
    (k : ∀ H' locs', am_Rel dC dI dA B0 H0 (am_up h a (.inl (κ, n, updV f i.toNatClampNeg .null))) H' → (∀ q ∈ locs', B0 ≤ q.base) → W p l e R s m args below meth c H' locs' cells slots Q (F0 m (pc + 1) ls T)) : W p l e R s m args below meth c H locs cells slots Q (F0 m pc ls (.null :: .int i :: .ref a :: T)) := by
  obtain ⟨⟨cell, q1, q2, q3, q4, q5, q6⟩, hB⟩ := hR.2.2.2 _ _ ha
  have hwr : am_wr (.inl (κ, n, f)) = true := decide_eq_true h20
  refine va_WaastN (C := C) hx hb q1 (am_arr hK q2 q4) q3 (am_inN hin q5) rfl rfl hd fun H' e1 e2 e3 => ?_
  exact k H' _ (hR.set ha hwr (am_astAt q2 q3 q4 q5 q6 e1) e2 e3) (am_lo hlo (hB hwr))
theorem am_newAt {κ n a : Nat} {w : Value} {H' : Heap} {cA : ClassId} (hc : cA = dA κ) (e1 : H'[a]? = some { cls := cA, slots := Array.replicate n w, vm := .none }) : am_at dC dI dA a (.inl (κ, n, fun _ => w)) H' := by
  refine ⟨_, e1, hc, (fun h => (by cases h)), (fun k h => (by cases h)), (by simp), fun j hj => ?_⟩
  simp [hj]
theorem am_newaW (hx : p.tables.exec = Jvm.exec) (hb : c.code = cc) (hts : ∀ w ∈ lw_all, w.before args s = true) (hR : am_Rel dC dI dA B0 H0 h H) {κ : Nat} {at_ : ArrayType} {x : Int32} (hw : Cond.arrayClass (newarray.typeOf at_) ∈ lw_all) (hRA : s.vm.findClass ("[" ++ (newarray.typeOf at_).toString) = some (dA κ)) (hn : ¬ x < 0) (hbytes : x.toNatClampNeg * componentBytes (newarray.typeOf at_) ≤ 536870912) (hcells : cells + 1 ≤ R.cells) (hslots : slots + x.toNatClampNeg ≤ R.slots) (hd : decode cc pc = .ok (.newarray at_, 2))
    (k : ∀ H', am_Rel dC dI dA B0 H0 (am_nw h (.inl (κ, x.toNatClampNeg, fun _ => defaultValue (newarray.typeOf at_))) x.toNatClampNeg) H' → W p l e R s m args below meth c H' locs (cells + 1) (slots + x.toNatClampNeg) Q (F0 m (pc + 2) ls (.ref h.2.1 :: T))) : W p l e R s m args below meth c H locs cells slots Q (F0 m pc ls (.int x :: T)) := by
  refine W.newa hx hb (hts _ hw) rfl hd rfl hn hbytes hcells hslots fun cA kA comp f1 f2 f3 => ?_
  have hc : cA = dA κ := Option.some.inj (f1.symm.trans hRA)
  have hs := hR.1
  refine W.eq (g2 := F0 m (pc + 2) ls (.ref h.2.1 :: T)) (by rw [hs]) (k _ (hR.new (am_newAt hc ?_) ?_ (fun q hq => ?_)))
  · rw [← hs]; simp
  · simp [hs]
  · rw [Array.getElem?_push, if_neg (by omega)]
theorem am_anewW (hx : p.tables.exec = Jvm.exec) (hb : c.code = cc) (hts : ∀ w ∈ lw_all, w.before args s = true) (hown : s.vm.findClass own = some m.cls) (hR : am_Rel dC dI dA B0 H0 h H) {κ : Nat} {C : String} {x : Int32} (hl : (Cond.classLink own idx C).before args s = true) (hover : (Cond.arrayOver (.object C)).before args s = true) (hRA : va_RA s (dA κ) (.object C)) (hn : ¬ x < 0) (hbytes : x.toNatClampNeg * 4 ≤ 536870912) (hcells : cells + 1 ≤ R.cells) (hslots : slots + x.toNatClampNeg ≤ R.slots) (hd : decode cc pc = .ok (.anewarray idx, 3))
    (k : ∀ H', am_Rel dC dI dA B0 H0 (am_nw h (.inl (κ, x.toNatClampNeg, fun _ => .null)) x.toNatClampNeg) H' → W p l e R s m args below meth c H' locs (cells + 1) (slots + x.toNatClampNeg) Q (F0 m (pc + 3) ls (.ref h.2.1 :: T))) : W p l e R s m args below meth c H locs cells slots Q (F0 m pc ls (.int x :: T)) := by
  refine W.anew hx hb hown hl hover rfl hd rfl hn hbytes hcells hslots fun cA kA comp f1 f2 f3 f4 => ?_
  obtain ⟨_, _, -, -, -, g4⟩ := hRA
  have hc : cA = dA κ := Option.some.inj (f1.symm.trans g4)
  have hs := hR.1
  refine W.eq (g2 := F0 m (pc + 3) ls (.ref h.2.1 :: T)) (by rw [hs]) (k _ (hR.new (am_newAt hc ?_) ?_ (fun q hq => ?_)))
  · rw [← hs]; simp
  · simp [hs]
  · rw [Array.getElem?_push, if_neg (by omega)]
def am_blank (ci : Nat) : List Value := (List.range ((am_cl[ci]?.map (fun r => r.2.2)).getD 0)).map (fun k => defaultValue (am_fty ci k))
theorem am_newW (hx : p.tables.exec = Jvm.exec) (hb : c.code = cc) (hts : ∀ w ∈ lw_all, w.before args s = true) (hown : s.vm.findClass own = some m.cls) (hK : am_KC dC dI s) (hR : am_Rel dC dI dA B0 H0 h H) {ci : Nat} {r : vw_C} (hr : am_cl[ci]? = some r) (hl : (Cond.classLink own idx r.1).before args s = true) (hcells : cells + 1 ≤ R.cells) (hslots : slots + r.2.2 ≤ R.slots) (hd : decode cc pc = .ok (.new idx, 3))
    (k : ∀ H', am_Rel dC dI dA B0 H0 (am_nw h (.inr (ci, am_blank ci)) r.2.2) H' → W p l e R s m args below meth c H' locs (cells + 1) (slots + r.2.2) Q (F0 m (pc + 3) ls (.ref h.2.1 :: T))) : W p l e R s m args below meth c H locs cells slots Q (F0 m pc ls T) := by
  have hcl := am_clAll _ _ hr
  have hKn := hK _ _ hr
  refine W.newcK hx hb hown hl (hts _ hcl.2.2.2.1) (hts _ hcl.2.2.2.2) rfl hd hcells hslots hKn.2.1 hR.1 fun H1 kC hkC e1 z1 o1 => ?_
  refine k H1 (hR.new ?_ z1 o1)
  obtain ⟨cell, c1, c2, c3, c4⟩ := u_born (am_fty ci) hts hcl.1 hKn hkC e1 hcl.2.1
  refine ⟨cell, c1, c2, (by rw [c3]; exact fun h => by cases h), (fun k h => (by rw [c3] at h; cases h)), fun _ => c3, fun j v hv => ?_⟩
  have hj : j < r.2.2 := by
    have := (List.getElem?_eq_some_iff.mp hv).1
    simpa [am_blank, hr] using this
  rw [c4 j hj]
  simp [am_blank, hr, hj] at hv
  exact congrArg some hv
theorem am_getNW (hx : p.tables.exec = Jvm.exec) (hb : c.code = cc) (hts : ∀ w ∈ lw_all, w.before args s = true) (hown : s.vm.findClass own = some m.cls) (hK : am_KC dC dI s) (hR : am_Rel dC dI dA B0 H0 h H) {q a : Nat} {fs : List Value} {v : Value} {r : vw_C} {host : String} (hr : am_cl[q / 128]? = some r) (hk : q % 128 < r.2.2)
    (hl : (Cond.fieldLinkNest own idx (am_fld q).1 (am_fld q).2.1 (am_fld q).2.2.1 host).before args s = true) (ha : h.1 a = some (.inr (q / 128, fs))) (hv : fs[q % 128]? = some v) (hd : decode cc pc = .ok (.getfield idx, 3))
    (k : W p l e R s m args below meth c H locs cells slots Q (F0 m (pc + 3) ls (v :: T))) : W p l e R s m args below meth c H locs cells slots Q (F0 m pc ls (.ref a :: T)) := by
  obtain ⟨⟨cell, q1, q2, q3, -, -, q4⟩, -⟩ := hR.2.2.2 _ _ ha
  obtain ⟨hS, hfc, kC, hkC, hkind⟩ := hK _ _ hr
  obtain ⟨cf, kf, fi, f, hi, hsl⟩ := hS _ hk
  rw [am_fldOk hr] at hl
  refine va_Wgetf hx hb hown hl hi (u_facts hfc hkC (u_lays hts (am_clAll _ _ hr).1 hk) hi).1 q1 q3 (v := v) ?_ rfl rfl hd k
  rw [hsl]
  exact q4 _ _ hv
theorem am_putNW (hx : p.tables.exec = Jvm.exec) (hb : c.code = cc) (hts : ∀ w ∈ lw_all, w.before args s = true) (hown : s.vm.findClass own = some m.cls) (hK : am_KC dC dI s) (hR : am_Rel dC dI dA B0 H0 h H) (hlo : ∀ q ∈ locs, B0 ≤ q.base) {q a : Nat} {fs : List Value} {v : Value} {r : vw_C} {host : String} (hr : am_cl[q / 128]? = some r) (hk : q % 128 < r.2.2) (h28 : q / 128 < 28) (hlen : fs.length = r.2.2)
    (hl : (Cond.fieldLinkNest own idx (am_fld q).1 (am_fld q).2.1 (am_fld q).2.2.1 host).before args s = true) (hf : (am_fld q).2.2.2 = false) (ha : h.1 a = some (.inr (q / 128, fs))) (hfit : am_fit (am_fty (q / 128) (q % 128)) v) (hd : decode cc pc = .ok (.putfield idx, 3))
    (k : ∀ H' locs', am_Rel dC dI dA B0 H0 (am_up h a (.inr (q / 128, fs.set (q % 128) v))) H' → (∀ q ∈ locs', B0 ≤ q.base) → W p l e R s m args below meth c H' locs' cells slots Q (F0 m (pc + 3) ls T)) : W p l e R s m args below meth c H locs cells slots Q (F0 m pc ls (v :: .ref a :: T)) := by
  have hwr : am_wr (.inr (q / 128, fs)) = true := decide_eq_true h28
  obtain ⟨⟨cell, q1, q2, q3, q3', q3n, q4⟩, hB⟩ := hR.2.2.2 _ _ ha
  obtain ⟨hS, hfc, kC, hkC, hkind⟩ := hK _ _ hr
  obtain ⟨cf, kf, fi, f, hi, hsl⟩ := hS _ hk
  have hcl := am_clAll _ _ hr
  obtain ⟨w0, hw0⟩ : ∃ w0, fs[q % 128]? = some w0 := ⟨_, List.getElem?_eq_getElem (by omega)⟩
  have hslot := q4 _ _ hw0
  have hlt : f.slot < cell.slots.size := by rw [hsl]; exact (Array.getElem?_eq_some_iff.mp hslot).1
  rw [am_fldOk hr] at hl hf
  have hlay := hts _ (hcl.1 _ (u_in_lay hk))
  unfold u_lay at hlay
  rw [if_neg (by rw [hf]; decide)] at hlay
  have h6 := u_store hfc hkC hkind hlay hi (hcl.2.1 _ hk) hfit.1 hfit.2
  refine va_WputK hx hb hown hl hi (u_facts hfc hkC (u_lays hts hcl.1 hk) hi).1 (by rw [q2]; exact h6) q1 (q3n h28) hlt rfl rfl hd fun H' e1 e2 e3 => ?_
  rw [hsl] at e1 ⊢
  exact k H' _ (hR.set ha hwr (am_putAt hts hK hr hk hlen q2 q3 q3' q3n q4 e1) e2 e3) (am_lo hlo (hB hwr))
theorem am_getsW (hx : p.tables.exec = Jvm.exec) (hb : c.code = cc) (hown : s.vm.findClass own = some m.cls) (hR : am_Rel dC dI dA B0 H0 h H) {C n d : String} {v : Value} (hZ : va_Z C n d v (fun q => B0 ≤ q) s H0) (hl : (Cond.fieldLink own idx C n d).before args s = true) (hd : decode cc pc = .ok (.getstatic idx, 3))
    (k : W p l e R s m args below meth c H locs cells slots Q (F0 m (pc + 3) ls (v :: T))) : W p l e R s m args below meth c H locs cells slots Q (F0 m pc ls T) := by
  obtain ⟨cf, kf, fi, f, a, cell, h1, h2, h3, h4, h5, h6, h7, h8⟩ := hZ
  exact W.gets hx hb hown hl h1 h2 h3 h4 ((hR.2.2.1 a (by omega)).trans h5) (fun q => by rw [q] at h6; cases h6) h7 rfl hd k
/-- the cell of an object, as casts and calls ask for it -/
theorem am_cellOf (hK : am_KC dC dI s) (hR : am_Rel dC dI dA B0 H0 h H) {a ci : Nat} {fs : List Value} {r : vw_C} (hr : am_cl[ci]? = some r) (ha : h.1 a = some (.inr (ci, fs))) : ∃ cell : Cell, H[a]? = some cell ∧ cell.vm.isStatics = false ∧ s.vm.findClass r.1 = some cell.cls := by
  obtain ⟨⟨cell, q1, q2, q3, q4, -⟩, -⟩ := hR.2.2.2 _ _ ha
  refine ⟨cell, q1, ?_, by rw [q2]; exact (hK _ _ hr).2.1⟩
  cases hv : cell.vm <;> first | rfl | exact absurd hv (q4 _)
end AM4
