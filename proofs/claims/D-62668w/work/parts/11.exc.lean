/-! THE SMALL MACHINE, 9: a new exception is made (its constructor's chain, with no stack trace), and thrown. -/
set_option maxRecDepth 100000
section AM9
variable {p : Program} {l : Launch} {e : Env} {R : Room} {s : State} {m : MethodId} {args : Array Value} {below : List Frame} {meth : Method} {c : Code} {V : State} {locs : List Loc} {cells slots : Nat}
set_option maxHeartbeats 4000000 in
theorem am_ctor (X : Stand p l e R s m args below meth c V locs cells slots) (hexec : p.tables.exec = Jvm.exec) (htr : e.platform.stackTraces = false) {own cls : String} {names : List String} {ic : Nat}
    (hown : s.vm.findClass own = some m.cls) (hcls : Bundle.fit cls = true) (hnames : ∀ n ∈ names, Bundle.fit n = true) (h : ∀ a ∈ Bundle.ownAtoms0 own ic cls names, a.before args s = true)
    {B0 : Nat} {H0 : Heap} (hsame : ∀ q : Nat, q < B0 → V.heap[q]? = s.heap[q]?) (hTS : am_TS B0 H0 "UNASSIGNED_STACK" Bundle.steD s)
    {a : Addr} {cX : ClassId} {kX : Class} (hfoundX : s.vm.findClass cls = some cX) (hkX : s.vm.classes[cX]? = some kX) (hcell : V.heap[a]? = some (freshCell cX kX)) (hnew : B0 ≤ a)
    {g : JFrame} (hg : g.method = m) (hsize : g.locals.size = c.maxLocals) {rest : List Value} (hstack : g.stack = .ref a :: rest)
    (hd6 : decode c.code g.pc = .ok (.invokespecial ic, 3)) (hRframes : names.length + 3 < R.frames) (hRlocals : 2 * g.monitorRoom + (rest.map fun v => v.category).sum + (13 * (names.length + 1) + 41) ≤ R.locals) :
    ∃ (vm' : Vm) (ce : Cell) (L : List Loc), Stand p l e R s m args below meth c ((V.setVm vm').setCell a ce) (locs ++ L) cells slots ∧ (∀ x ∈ L, x.base = a) ∧ ce.cls = cX ∧ ce.vm = .none ∧
      ∀ target, Steps p.tables e below (((V.setVm vm').setCell a ce).setTop { g with pc := g.pc + 3, stack := rest }) target → Steps p.tables e below (V.setTop g) target := by
  have howns : e.platform.frameOwnsMonitors = true := by rw [X.admits.platform]
  have hfin : e.platform.finalization = false := by rw [X.admits.platform]
  have hpl : e.platform.magicAccessors = ({} : Platform).magicAccessors := by rw [X.admits.platform]
  have a' : ∀ x, x ∈ Bundle.ownAtoms0 own ic cls names → x.holds args s none s [] = true := fun x hx => h x hx
  obtain ⟨T, Z, L, LZ, Y⟩ := ThrowableC.of_atoms (args := args) howns hfin hpl (fun x hx => h x (by simp [Bundle.ownAtoms0, hx]))
  obtain ⟨P1, Ps, hlen, L1, hL, hP1m, hlink1, hlink⟩ := Bundle.chain0 (args := args) hpl Y.init0 names cls hcls hnames (fun x hx => h x (by simp [Bundle.ownAtoms0, hx]))
  have hfound : s.vm.findClass cls = some P1.m.cls := findClass_of_methodNamed hP1m
  cases Option.some.inj (hfoundX.symm.trans hfound)
  obtain ⟨c1, kX', hc1, hk, hord, -, -, hn6⟩ := Cond.instantiable_spec (a' (.instantiable cls 6) (by simp [Bundle.ownAtoms0]))
  cases Option.some.inj (hc1.symm.trans hfound)
  cases Option.some.inj (hkX.symm.trans hk)
  have hsel0 : selectMethod e.platform s.vm P1.m.cls T.fill0 = .method T.fill0 := by
    obtain ⟨c2, r2, m2, q1, q2, q3, q4, -⟩ := Cond.selects_spec (a' (.selects cls Bundle.tFill0 Bundle.tFill0) (by simp [Bundle.ownAtoms0]))
    cases Option.some.inj (q1.symm.trans hfound)
    cases Option.some.inj (q2.symm.trans (State.methodFound?_of_named Y.fill0 (by decide)))
    cases Option.some.inj (q3.symm.trans Y.fill0)
    rw [Launch.admits_selectMethod X.admits]; exact q4
  have hselF : selectMethod e.platform s.vm P1.m.cls T.fill = .method T.fill := by
    obtain ⟨c2, r2, m2, q1, q2, q3, q4, -⟩ := Cond.selects_spec (a' (.selects cls Bundle.tFill Bundle.tFill) (by simp [Bundle.ownAtoms0]))
    cases Option.some.inj (q1.symm.trans hfound)
    cases Option.some.inj (q2.symm.trans (State.methodFound?_of_named Y.fill (by decide)))
    cases Option.some.inj (q3.symm.trans Y.fill)
    rw [Launch.admits_selectMethod X.admits]; exact q4
  obtain ⟨cellS, hcS0, hiss⟩ := Y.statics
  obtain ⟨u0, hu0⟩ := Cond.staticRefV Y.unassigned L.unassignedStatic L.statics hcS0 hiss (a' (.isRef (.static Bundle.tN "UNASSIGNED_STACK" Bundle.steD)) (by simp [Bundle.ownAtoms0]))
  obtain ⟨sen, hsen⟩ := Cond.staticRefV Y.sentinel L.sentinelStatic L.statics hcS0 hiss (a' (.isRef (.static Bundle.tN "SUPPRESSED_SENTINEL" Bundle.listD)) (by simp [Bundle.ownAtoms0]))
  obtain ⟨ci198, i198, fB, hk198, hg198, ha198, hsB, -, hnB, htB, hffB⟩ := Cond.ownField (t := .object "java/lang/Object") Y.found L.cls (by decide +kernel) (a' (.fieldLink Bundle.tN 198 Bundle.tN "backtrace" "Ljava/lang/Object;") (by simp [Bundle.ownAtoms0])) (a' (.lays Bundle.tN Bundle.tN "backtrace" "Ljava/lang/Object;") (by simp [Bundle.ownAtoms0])) e.platform hpl
  have haS : T.aS < B0 := by
    obtain ⟨c, k, i, f, a, cell, v, h1, h2, h3, h4, h5, h6⟩ := hTS
    have e1 := h2.symm.trans Y.unassigned
    have e2 : k = T.kT := by simp at e1; exact e1.2.1
    rw [e2, L.statics] at h4
    cases h4
    exact h5
  have hcellS : V.heap[T.aS]? = some cellS := (hsame _ haS).trans hcS0
  have hknownS : cellS.vm ≠ .unknown := by
    intro hu
    rw [show cellS.vm = .unknown from hu] at hiss
    cases hiss
  have hneS : T.aS ≠ a := Nat.ne_of_lt (Nat.lt_of_lt_of_le haS hnew)
  obtain ⟨tyC, dC, hdC, hdnC⟩ := Cond.laysAt hfound hk Y.cause (a' (.lays cls Bundle.tN "cause" "Ljava/lang/Throwable;") (by simp [Bundle.ownAtoms0]))
  obtain ⟨tyS, dS, hdS, hdnS⟩ := Cond.laysAt hfound hk Y.stack (a' (.lays cls Bundle.tN "stackTrace" Bundle.steD) (by simp [Bundle.ownAtoms0]))
  obtain ⟨tyP, dP, hdP, hdnP⟩ := Cond.laysAt hfound hk Y.supp (a' (.lays cls Bundle.tN "suppressedExceptions" Bundle.listD) (by simp [Bundle.ownAtoms0]))
  obtain ⟨tyB, dB, hdB, hdnB⟩ := Cond.laysAt hfound hk hffB (a' (.lays cls Bundle.tN "backtrace" "Ljava/lang/Object;") (by simp [Bundle.ownAtoms0]))
  have bC := Cond.laysApart hdB hdC hdnB hdnC (by rw [hnB, Y.causeName]; decide)
  have bS := Cond.laysApart hdB hdS hdnB hdnS (by rw [hnB, Y.stackName]; decide)
  have bP := Cond.laysApart hdB hdP hdnB hdnP (by rw [hnB, Y.suppName]; decide)
  have hskip : SkipFacts T e.platform s (fun u => u) u0 ((preparedCellV T.toThrowableT (freshCell P1.m.cls kX) a u0 sen).withEntry V.cur) :=
    ⟨{ ci198 := ci198, i198 := i198, fBack := fB }, ⟨hk198, hg198, ha198, hsB⟩, by
      have := fresh_default (c := P1.m.cls) tyB
      rw [htB] at this
      simpa [preparedCellV, Cell.setSlot, Cell.withEntry, Array.getElem?_setIfInBounds, bC, bS, bP, bC.symm, bS.symm, bP.symm, defaultValue] using this, fun _ _ => rfl⟩
  obtain ⟨tm, methC, cdC, kC, vm₁, hnC, -, -, -, -, -, -, -, hW₁, st1⟩ := Steps.initCold (tb := p.tables) (e := e) (below := below) (s := s) (U := V) X.here hexec X.warmed hpl hown (t := Bundle.init0 cls) rfl rfl (Bundle.fit_spec hcls).2
    (a' (.methodLink own ic (Bundle.init0 cls)) (by simp [Bundle.ownAtoms0])) (h (.instanceMethod (Bundle.init0 cls)) (by cases names <;> simp [Bundle.ownAtoms0, Bundle.chain0Atoms, Bundle.passAtoms])) (bytes := Bundle.five) (maxL := 1) (h (.code (Bundle.init0 cls) Bundle.five 1 none) (by cases names <;> simp [Bundle.ownAtoms0, Bundle.chain0Atoms, Bundle.passAtoms]))
    (f := g) hg (a := a) (rest := rest) hstack hd6
  cases Option.some.inj (hnC.symm.trans hP1m)
  have X₁ := X.noted hW₁
  obtain ⟨vm₂, X₂, st2⟩ := X₁.ctorPlainOffV hexec (g := { g with stack := rest }) hg hsize T L Z LZ (P1 :: Ps)
    (fun P hP => by rcases List.mem_cons.mp hP with rfl | hP; exact L1; exact hL P hP) ⟨hlink1, hlink⟩ (u0 := u0) (sen := sen) (self := a) (cell := freshCell P1.m.cls kX) (cellS := cellS)
    hcell (fun _ => by simp) (by simp) rfl rfl hsel0 hselF hcellS hneS hknownS hu0 hsen
    (Takes.of_laid hk hord tyC (by rw [Y.causeType]; rfl)) (Takes.of_laid hk hord tyS (by rw [Y.stackType]; exact fits_refV_array _ u0)) (Takes.of_laid hk hord tyP (by rw [Y.suppType]; exact fits_refV_object _ sen)) Y.objLocals hskip htr [] hd6
    (by simp only [List.length_cons, hlen]; omega) (by simp only [List.length_cons, hlen]; exact hRlocals)
  rw [State.setVm_twice] at X₂ st2
  refine ⟨vm₂, _, _, X₂, fun x hx => ?_, rfl, rfl, fun target hrest => st1 target (fun acts => ?_)⟩
  · simp only [List.mem_cons, List.not_mem_nil, or_false] at hx
    rcases hx with rfl | rfl | rfl | rfl <;> rfl
  · have h9 := st2 target hrest
    rw [doInvoke_state] at h9 ⊢
    exact h9
end AM9
theorem am_xall (ci : Nat) (h : am_exc ci = true) : (am_xa ci).all am_xchk = true := by
  simp only [am_exc, Bool.and_eq_true, decide_eq_true_eq] at h
  have : ci = 23 ∨ ci = 24 ∨ ci = 25 ∨ ci = 26 ∨ ci = 27 := by omega
  rcases this with rfl | rfl | rfl | rfl | rfl
  · exact am_xall23
  · exact am_xall24
  · exact am_xall25
  · exact am_xall26
  · exact am_xall27
theorem am_xfit (ci : Nat) (h : am_exc ci = true) : Bundle.fit (am_cn ci) = true := by
  simp only [am_exc, Bool.and_eq_true, decide_eq_true_eq] at h
  have : ci = 23 ∨ ci = 24 ∨ ci = 25 ∨ ci = 26 ∨ ci = 27 := by omega
  rcases this with rfl | rfl | rfl | rfl | rfl <;> decide +kernel
theorem am_xcl (ci : Nat) (h : am_exc ci = true) : ∃ r, am_cl[ci]? = some r ∧ r.1 = am_cn ci ∧ r.2.2 = 6 := by
  simp only [am_exc, Bool.and_eq_true, decide_eq_true_eq] at h
  have : ci = 23 ∨ ci = 24 ∨ ci = 25 ∨ ci = 26 ∨ ci = 27 := by omega
  rcases this with rfl | rfl | rfl | rfl | rfl <;> exact ⟨_, rfl, rfl, rfl⟩
theorem am_xatoms {dC : Nat → ClassId} {dI : Nat → Nat → Nat} {dA : Nat → ClassId} {ad : Nat → Nat} {B0 : Nat} {H0 : Heap} {s : State} {args : Array Value} (hts : ∀ w ∈ lw_all, w.before args s = true) (hK : am_K dC dI dA ad B0 H0 s) (hS0 : ∀ q : Nat, q < B0 → s.heap[q]? = H0[q]?) (ci : Nat) (h : am_exc ci = true) : ∀ w ∈ am_xa ci, w.before args s = true := by
  intro w hw
  have h1 := List.all_eq_true.mp (am_xall ci h) w hw
  obtain ⟨-, -, k3, -, -, k6, k7, -⟩ := hK
  simp only [am_xchk, Bool.or_eq_true, Bool.and_eq_true, decide_eq_true_eq] at h1
  rcases h1 with (((⟨h1, h2⟩ | h1) | h1) | h1) | h1
  · rcases h2 with h2 | h2
    · exact hts _ (List.mem_filter.mpr ⟨h1, h2⟩)
    · exact am_okw_use h2 (k3 w h1 h2)
  · rw [h1]; exact k6.lays hS0
  · rw [h1]; exact k7.lays hS0
  · rw [h1]; exact k6.ref hS0
  · rw [h1]; exact k7.ref hS0
section AM9b
variable {p : Program} {l : Launch} {e : Env} {R : Room} {s : State} {m : MethodId} {args : Array Value} {below : List Frame} {meth : Method} {c : Code} {H : Heap} {locs : List Loc} {cells slots : Nat} {cc : ByteArray} {pc : Nat} {ls : Array Slot} {dC : Nat → ClassId} {dI : Nat → Nat → Nat} {dA : Nat → ClassId} {ad : Nat → Nat} {B0 : Nat} {H0 : Heap} {h : am_H}
set_option maxHeartbeats 1000000 in
theorem am_throwW {Qc : Array Value → State → Outcome → State → Prop} (hx : p.tables.exec = Jvm.exec) (hb : c.code = cc) (hts : ∀ w ∈ lw_all, w.before args s = true) (hown : s.vm.findClass "FunDesk" = some m.cls) (hK : am_K dC dI dA ad B0 H0 s) (hR : am_Rel dC dI dA B0 H0 h H) (hS0 : ∀ q : Nat, q < B0 → s.heap[q]? = H0[q]?) (hlo : ∀ q ∈ locs, B0 ≤ q.base) (hnl : l.stackTraces = false) (hlocks : meth.locks = false) (hml : ls.size = c.maxLocals) (hno : c.exceptionTable.toList = [])
    {ci idx : Nat} (hci : am_exc ci = true) (hl : Cond.classLink "FunDesk" idx (am_cn ci) ∈ lw_all) (hd0 : decode cc pc = .ok (.new idx, 3)) (hd1 : decode cc (pc + 3) = .ok (.dup, 1)) (hd2 : decode cc (pc + 4) = .ok (.invokespecial (am_xi ci), 3)) (hd3 : decode cc (pc + 7) = .ok (.athrow, 1))
    (hR1 : cells + 1 ≤ R.cells) (hR2 : slots + 6 ≤ R.slots) (hR3 : 6 ≤ R.frames) (hR4 : 100 ≤ R.locals)
    (hq : ∀ t : State, am_Rel dC dI dA B0 H0 (am_nw h (.inr (ci, [])) 6) t.heap → s.WarmedH t.vm → Qc args s (.threw h.2.1) t) :
    W p l e R s m args below meth c H locs cells slots (am_MQ below Qc args s (cells + 1) (slots + 6) (fun q => B0 ≤ q)) (F0 m pc ls []) := by
  obtain ⟨r, hr, hr1, hr2⟩ := am_xcl ci hci
  have hcl := am_clAll _ _ hr
  have hKn := hK.1 _ _ hr
  rw [← hr1] at hl
  refine W.newcK hx hb hown (hts _ hl) (hts _ hcl.2.2.2.1) (hts _ hcl.2.2.2.2) rfl hd0 hR1 (by rw [hr2]; exact hR2) hKn.2.1 hR.1 fun H1 kC hkC e1 z1 o1 => ?_
  rw [hr2]
  refine lv_dup hx hb hd1 rfl ?_
  intro T hT X
  have hlt : h.2.1 < H1.size := by omega
  have hB : B0 ≤ h.2.1 := hR.2.1
  have htr : e.platform.stackTraces = false := by rw [X.admits.platform]; exact hnl
  obtain ⟨vm', ce, L, X', hL, hc1, hc2, hst⟩ := am_ctor (B0 := B0) (H0 := H0) X hx htr (own := "FunDesk") (cls := am_cn ci) (names := ["java/lang/RuntimeException", "java/lang/Exception"]) (ic := am_xi ci) hown (am_xfit ci hci) (by decide +kernel) (am_xatoms hts hK hS0 ci hci)
    (fun q hq => by rw [hT, hS0 q hq, o1 q (by omega)]; exact hR.2.2.1 q hq) hK.2.2.2.2.2.1 (by rw [← hr1]; exact hKn.2.1) hkC (by rw [hT]; exact e1) hB (g := F0 m (pc + 4) ls [.ref h.2.1, .ref h.2.1]) rfl hml rfl (by rw [hb]; exact hd2) (by show 2 + 3 < R.frames; omega) (by show _ ≤ R.locals; simp [Value.category, F0, JFrame.monitorRoom]; omega)
  have hh2 : ((T.setVm vm').setCell h.2.1 ce).heap = H1.setIfInBounds h.2.1 ce := by rw [← hT]; rfl
  have hR' : am_Rel dC dI dA B0 H0 (am_nw h (.inr (ci, [])) 6) (H1.setIfInBounds h.2.1 ce) := by
    refine hR.new ?_ (by simp [z1]) (fun q hq => ?_)
    · refine ⟨ce, (by simp [hlt]), hc1, (by rw [hc2]; exact fun z => by cases z), (fun k z => (by rw [hc2] at z; cases z)), fun _ => hc2, fun k v hv => (by simp at hv)⟩
    · rw [Array.getElem?_setIfInBounds_ne (by omega)]; exact o1 q hq
  have hlo' : ∀ q ∈ locs ++ L, B0 ≤ q.base := by
    intro q hq
    rcases List.mem_append.mp hq with hq | hq
    · exact hlo q hq
    · rw [hL q hq]; exact hB
  obtain ⟨t, a1, b1⟩ := am_athrowW (H := H1.setIfInBounds h.2.1 ce) (pc := pc + 7) (ls := ls) (rest := []) (x := h.2.1) (free := fun q => B0 ≤ q) (Qc := Qc) hx hb hlocks hno hlo' hd3 (fun t ht hW => hq t (by rw [ht]; exact hR') hW) _ hh2 X'
  exact ⟨t, hst t a1, b1⟩
end AM9b
