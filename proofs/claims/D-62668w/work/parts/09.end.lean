/-! THE SMALL MACHINE, 7: how a method ends: a return, a throw that leaves it, a throw that one of its handlers takes. -/
set_option maxRecDepth 100000
/-- a handler of the small machine: from, to, where it begins, its entry of the constant pool, the number of the class that it takes -/
abbrev am_Hn : Type := Nat × Nat × Nat × Nat × Nat
def am_find (pc ci : Nat) : List am_Hn → Option Nat
  | [] => none
  | q :: t => if q.1 ≤ pc ∧ pc < q.2.1 ∧ q.2.2.2.2 = ci then some q.2.2.1 else am_find pc ci t
def am_hraw (q : am_Hn) : Nat × Nat × Nat × Nat := (q.1, q.2.1, q.2.2.1, q.2.2.2.1)
section AM7a
variable {Q : Handler → Pre} {E : CtlPost} {e : Env} {d : Bool} {acts : List Action} {s : State} {f : JFrame} {a : Addr}
theorem am_goYes {x : ExceptionTableEntry} {t : List ExceptionTableEntry} {c : ClassId} {cell : Cell} (hx : covers x f.pc = true) (h0 : x.catchType ≠ 0) (hl : s.vm.ClassLinks e.platform f.method.cls x.catchType c) (hcell : s.heap[a]? = some cell) (hobj : ∀ k, cell.vm ≠ .statics k) (hk : ∃ k, s.vm.classes[cell.cls]? = some k) (hc : ∃ k, s.vm.classes[c]? = some k) (hfit : s.vm.assignable cell.cls c = true) :
    wp (findHandler.go f a (x :: t)) Q E e d acts s ↔ Q (.found x.handlerPc) d acts (s.setVm (s.vm.noted f.method.cls x.catchType (.cls c))) := by
  simp only [covers] at hx
  obtain ⟨ha, ht⟩ := (resolveClass_links e.toSetting hl).op (op := VmOp.resolveClass f.method.cls x.catchType) rfl
  have hal : s.vm.Alike (s.vm.noted f.method.cls x.catchType (.cls c)) := (Vm.Alike.refl s.vm).noted _ _ _
  obtain ⟨k1, hk1⟩ := hk
  obtain ⟨k2, hk2⟩ := hc
  obtain ⟨k3, hk3, -⟩ := hal.2.2 _ _ hk1
  obtain ⟨k4, hk4, -⟩ := hal.2.2 _ _ hk2
  have hf : (s.vm.noted f.method.cls x.catchType (.cls c)).assignable cell.cls c = true := by rw [hal.assignable]; exact hfit
  simp [findHandler.go, hx, h0, ha, ht, hcell, hobj, hk3, hk4, hf, VmOp.dirties, VmOp.acts]
theorem am_goNo {x : ExceptionTableEntry} {t : List ExceptionTableEntry} {c : ClassId} {cell : Cell} (hx : covers x f.pc = true) (h0 : x.catchType ≠ 0) (hl : s.vm.ClassLinks e.platform f.method.cls x.catchType c) (hcell : s.heap[a]? = some cell) (hobj : ∀ k, cell.vm ≠ .statics k) (hk : ∃ k, s.vm.classes[cell.cls]? = some k) (hc : ∃ k, s.vm.classes[c]? = some k) (hno : s.vm.assignable cell.cls c = false) :
    wp (findHandler.go f a (x :: t)) Q E e d acts s ↔ wp (findHandler.go f a t) Q E e d acts (s.setVm (s.vm.noted f.method.cls x.catchType (.cls c))) := by
  simp only [covers] at hx
  obtain ⟨ha, ht⟩ := (resolveClass_links e.toSetting hl).op (op := VmOp.resolveClass f.method.cls x.catchType) rfl
  have hal : s.vm.Alike (s.vm.noted f.method.cls x.catchType (.cls c)) := (Vm.Alike.refl s.vm).noted _ _ _
  obtain ⟨k1, hk1⟩ := hk
  obtain ⟨k2, hk2⟩ := hc
  obtain ⟨k3, hk3, -⟩ := hal.2.2 _ _ hk1
  obtain ⟨k4, hk4, -⟩ := hal.2.2 _ _ hk2
  have hf : (s.vm.noted f.method.cls x.catchType (.cls c)).assignable cell.cls c = false := by rw [hal.assignable]; exact hno
  simp [findHandler.go, hx, h0, ha, ht, hcell, hobj, hk3, hk4, hf, VmOp.dirties, VmOp.acts]
/-- the search through a method's handlers -/
theorem am_goAll {s₀ : State} {dC : Nat → ClassId} {ci : Nat} {cell : Cell} (hcls : cell.cls = dC ci) (hobj : ∀ k, cell.vm ≠ .statics k) (hk0 : ∃ k, s₀.vm.classes[dC ci]? = some k) (hf : f.method.cls = f.method.cls)
    : ∀ (es : List ExceptionTableEntry) (hs : List am_Hn), es.map (fun h => (h.startPc, h.endPc, h.handlerPc, h.catchType)) = hs.map am_hraw →
      (∀ q ∈ hs, q.2.2.2.1 ≠ 0 ∧ s₀.vm.ClassLinks e.platform f.method.cls q.2.2.2.1 (dC q.2.2.2.2) ∧ s₀.vm.assignable (dC ci) (dC q.2.2.2.2) = decide (q.2.2.2.2 = ci)) →
      ∀ (hpc : Nat), am_find f.pc ci hs = some hpc → ∀ S : State, s₀.WarmedH S.vm → S.heap[a]? = some cell → ∃ vm', s₀.WarmedH vm' ∧ ∀ (Q : Handler → Pre) (E : CtlPost) (d : Bool) (acts : List Action), wp (findHandler.go f a es) Q E e d acts S ↔ Q (.found hpc) d acts (S.setVm vm') := by
  intro es
  induction es with
  | nil =>
    intro hs hm _ hpc hfd
    cases hs with
    | nil => cases hfd
    | cons q t => cases hm
  | cons x xs ih =>
    intro hs hm hall hpc hfd S hW hcell
    cases hs with
    | nil => cases hm
    | cons q t =>
      simp only [List.map_cons, List.cons.injEq, am_hraw, Prod.mk.injEq] at hm
      obtain ⟨⟨e1, e2, e3, e4⟩, hm'⟩ := hm
      obtain ⟨h0, hl, hasg⟩ := hall q List.mem_cons_self
      have hall' := fun z hz => hall z (List.mem_cons_of_mem _ hz)
      obtain ⟨k0, hk0⟩ := hk0
      obtain ⟨k0', hk0', -⟩ := hW.alike.2.2 _ _ hk0
      rw [← e4] at h0 hl
      obtain ⟨dk, _, _, kt, hd, _, _, _, _, hkt, _, hopen⟩ := hl.here
      obtain ⟨kt', hkt', -⟩ := hW.alike.2.2 _ _ hkt
      have hk1 : ∃ k, S.vm.classes[cell.cls]? = some k := by rw [hcls]; exact ⟨k0', hk0'⟩
      by_cases hcov : covers x f.pc = true
      · have hcv : x.startPc ≤ f.pc ∧ f.pc < x.endPc := by simpa [covers] using hcov
        rw [e1, e2] at hcv
        by_cases hq : q.2.2.2.2 = ci
        · simp only [am_find, hcv.1, hcv.2, hq, and_self, if_true] at hfd
          cases hfd
          refine ⟨_, hW.noted hd hopen (State.rightAt_cls hl), fun Q E d acts => ?_⟩
          rw [← e3]
          exact am_goYes hcov h0 (hW.classLinks hl) hcell hobj hk1 ⟨kt', hkt'⟩ (by rw [hW.alike.assignable, hcls, hasg]; exact decide_eq_true hq)
        · simp only [am_find, hq, and_false, if_false] at hfd
          obtain ⟨vm', hW', hh⟩ := ih t hm' hall' hpc hfd (S.setVm (S.vm.noted f.method.cls x.catchType (.cls (dC q.2.2.2.2)))) (hW.noted hd hopen (State.rightAt_cls hl)) hcell
          refine ⟨vm', hW', fun Q E d acts => ?_⟩
          rw [am_goNo hcov h0 (hW.classLinks hl) hcell hobj hk1 ⟨kt', hkt'⟩ (by rw [hW.alike.assignable, hcls, hasg]; exact decide_eq_false hq)]
          exact hh Q E d acts
      · have hcf : covers x f.pc = false := by cases h : covers x f.pc <;> simp_all
        have hcv : ¬ (q.1 ≤ f.pc ∧ f.pc < q.2.1 ∧ q.2.2.2.2 = ci) := by
          intro z
          apply hcov
          rw [← e1, ← e2] at z
          simp [covers, z.1, z.2.1]
        simp only [am_find, hcv, if_false] at hfd
        obtain ⟨vm', hW', hh⟩ := ih t hm' hall' hpc hfd S hW hcell
        exact ⟨vm', hW', fun Q E d acts => by rw [W.findHandler_go_skip hcf]; exact hh Q E d acts⟩
end AM7a
section AM7
variable {p : Program} {l : Launch} {e : Env} {R : Room} {s : State} {m : MethodId} {args : Array Value} {below : List Frame} {meth : Method} {c : Code} {H : Heap} {locs : List Loc} {cells slots : Nat} {Q : State → Prop} {T : State} {g : JFrame} {x : Addr}
theorem am_caught (X : Stand p l e R s m args below meth c T locs cells slots) (hg : g.method = m) {dC : Nat → ClassId} {ci hpc : Nat} {cell : Cell} {hs : List am_Hn} (hcell : T.heap[x]? = some cell) (hcls : cell.cls = dC ci) (hobj : ∀ k, cell.vm ≠ .statics k) (hk0 : ∃ k, s.vm.classes[dC ci]? = some k)
    (hm : c.exceptionTable.toList.map (fun h => (h.startPc, h.endPc, h.handlerPc, h.catchType)) = hs.map am_hraw) (hall : ∀ q ∈ hs, q.2.2.2.1 ≠ 0 ∧ s.vm.ClassLinks e.platform m.cls q.2.2.2.1 (dC q.2.2.2.2) ∧ s.vm.assignable (dC ci) (dC q.2.2.2.2) = decide (q.2.2.2.2 = ci)) (hfd : am_find g.pc ci hs = some hpc) :
    ∃ vm', Stand p l e R s m args below meth c (T.setVm vm') locs cells slots ∧ ∀ target, Steps p.tables e below ((T.setVm vm').setTop { g with pc := hpc, stack := [.ref x] }) target → Steps p.tables e below ((T.setTop g).pushFrame (.throwing x)) target := by
  subst hg
  have hmT : ((T.setTop g).pushFrame (.throwing x)).vm.method? g.method = some meth := X.method'
  have hcd : meth.code = some c := X.code
  obtain ⟨vm', hW', hh⟩ := am_goAll (e := e) (f := g) (a := x) (s₀ := s) hcls hobj hk0 rfl c.exceptionTable.toList hs hm hall hpc hfd ((T.setTop g).pushFrame (.throwing x)) X.warmed (by exact hcell)
  refine ⟨vm', X.noted hW', fun target hrest => ?_⟩
  obtain ⟨hgo, hw⟩ := X.here.throwing (g := g) x
  refine Steps.head hgo hw ?_
  have hF : ∀ (Q : Handler → Pre) (E : CtlPost) (d : Bool) (acts : List Action), wp (findHandler g x) Q E e d acts ((T.setTop g).pushFrame (.throwing x)) ↔ Q (.found hpc) d acts (((T.setTop g).pushFrame (.throwing x)).setVm vm') := by
    intro Q E d acts
    rw [W.findHandler_eq hmT hcd]
    exact hh Q E d acts
  have hst : (stepThrowing e ((T.setTop g).pushFrame (.throwing x)) x (.java g :: T.frames.tail)).1 = (((T.setTop g).pushFrame (.throwing x)).setVm vm').setFrames (.java { g with pc := hpc, stack := [.ref x] } :: T.frames.tail) := by
    simp only [stepThrowing, searchFrame, vmDo]
    generalize hr : Sem.go _ e false [] _ = res
    obtain ⟨as, rfl, ha⟩ := Sem.eq_ok_of hr (a := Handler.found hpc) (s' := ((T.setTop g).pushFrame (.throwing x)).setVm vm') (acts' := []) (by simp [hF])
    rfl
  rw [stepThread_throwing (frames_entered X.here.top _), hst]
  obtain ⟨g₀, hg0⟩ := Option.isSome_iff_exists.mp X.here.top
  obtain ⟨r, hr⟩ := State.topJava?_eq_some.mp hg0
  have hr' : (T.setVm vm').frames = .java g₀ :: r := hr
  rw [State.setTop_of_frames _ hr'] at hrest
  have e1 : ∀ (u : State) (F G : List Frame), ((u.setFrames F).setVm vm').setFrames G = (u.setVm vm').setFrames G := by
    intro u F G
    have h1 : (u.setFrames F).setVm vm' = (u.setVm vm').setFrames F := rfl
    rw [h1, State.setFrames_setFrames]
  rw [hr, List.tail_cons, State.pushFrame, e1, State.setTop_of_frames _ hr, e1]
  exact hrest
/-- a throw that no handler of the method takes -/
theorem am_leaves {Qc : Array Value → State → Outcome → State → Prop} {free : Addr → Prop} (X : Stand p l e R s m args below meth c T locs cells slots) (hg : g.method = m) (hlocked : g.locked = none) (hent : g.entered = []) (hlocks : meth.locks = false) (hout : ∀ x ∈ c.exceptionTable.toList, covers x g.pc = false) (hf : ∀ q ∈ locs, free q.base)
    (hq : ∀ t : State, t.heap = T.heap → s.WarmedH t.vm → Qc args s (.threw x) t) : ∃ t', Steps p.tables e below ((T.setTop g).pushFrame (.throwing x)) t' ∧ am_MQ below Qc args s cells slots free t' := by
  obtain ⟨h1, h2, h3, h4, h5⟩ := X.leaveThrown x (g := g) hg hlocked hent hout (hlocks := hlocks)
  exact ⟨_, h1, .threw x, h2, h3, hq _ rfl h4, locs, ⟨h4, h5⟩, hf⟩
theorem am_mono {Q' : State → Prop} (h : ∀ t, Q t → Q' t) (k : W p l e R s m args below meth c H locs cells slots Q g) : W p l e R s m args below meth c H locs cells slots Q' g := by
  intro T hT X
  obtain ⟨t, a, b⟩ := k T hT X
  exact ⟨t, a, h t b⟩
theorem am_ofMQ {Qc : Array Value → State → Outcome → State → Prop} {free : Addr → Prop} {mc ms : Nat} (k : W p l e R s m args below meth c H locs cells slots (MQ below Qc args s mc ms free) g) : W p l e R s m args below meth c H locs cells slots (am_MQ below Qc args s mc ms free) g :=
  am_mono (fun t ⟨o, h1, h2, h3, L, h4, h5⟩ => ⟨o, h1, h2, h3, L, h4.2, h5⟩) k
theorem am_athrowW {Qc : Array Value → State → Outcome → State → Prop} {free : Addr → Prop} {cc : ByteArray} {pc : Nat} {ls : Array Slot} {rest : List Value} (hx : p.tables.exec = Jvm.exec) (hb : c.code = cc) (hlocks : meth.locks = false) (hno : c.exceptionTable.toList = []) (hf : ∀ q ∈ locs, free q.base) (hd : decode cc pc = .ok (.athrow, 1))
    (hq : ∀ t : State, t.heap = H → s.WarmedH t.vm → Qc args s (.threw x) t) : W p l e R s m args below meth c H locs cells slots (am_MQ below Qc args s cells slots free) (F0 m pc ls (.ref x :: rest)) := by
  intro T hT X
  obtain ⟨h1, h2, h3, h4, h5⟩ := X.athrowLeaves (a := x) (g := F0 m pc ls (.ref x :: rest)) hx rfl rfl rfl (fun y hy => (by rw [hno] at hy; cases hy)) rfl (by rw [hb]; exact hd) (hlocks := hlocks)
  exact ⟨_, h1, .threw x, h2, h3, hq _ hT h4, locs, ⟨h4, h5⟩, hf⟩
end AM7
section AM7c
variable {l : Launch} {y : MethodName} {ws' : List Cond} {rm : Room} {Pc : Array Value → State → Prop} {Qc : Array Value → State → Outcome → State → Prop} {mc ms : Nat} {free : Addr → Prop} {cc : ByteArray} {maxL : Nat} {ret : Option FieldType} {hh : List (Nat × Nat × Nat × Nat)}
/-- a contract out of a walk of the body -/
theorem am_ofW (hy : plainName y.cls = true)
    (body : ∀ p e s m args below meth c s₁, BodyLoose p l y (headSpec (am_cdw y cc maxL ret hh :: ws') rm) cc maxL ret e s m args below meth c s₁ → c.maxLocals = maxL → c.exceptionTable.toList.map (fun h => (h.startPc, h.endPc, h.handlerPc, h.catchType)) = hh → Pc args s →
      W p l e rm s m args below meth c s.heap [] 0 0 (am_MQ below Qc args s mc ms free) (entryFrame m args maxL)) : am_Met l y (am_cdw y cc maxL ret hh :: ws') rm Pc Qc mc ms free := by
  have key : ∀ (args : Array Value) (s : State) (m : MethodId), (headSpec (am_cdw y cc maxL ret hh :: ws') rm).pre.before args s = true → s.methodNamed? y = some m → ∃ meth c, s.vm.method? m = some meth ∧ meth.code = some c ∧ c.code = cc ∧ c.maxLocals = maxL ∧ meth.sig.returnType = ret ∧ meth.locks = false ∧ c.exceptionTable.toList.map (fun h => (h.startPc, h.endPc, h.handlerPc, h.catchType)) = hh := by
    intro args s m h hn
    have h1 := atoms_spec (ws := am_cdw y cc maxL ret hh :: ws') h _ List.mem_cons_self
    unfold am_cdw at h1
    split at h1
    · rename_i e0
      obtain ⟨meth, c, h1, h2, h3, h4, h5, h6, h7, -⟩ := Cond.code_spec hn h1
      have h7 : c.exceptionTable = #[] := by simpa using h7
      exact ⟨meth, c, h1, h2, h3, h4, h5, h6, by rw [h7, e0]; rfl⟩
    · obtain ⟨m9, meth, c, hn9, h1, h2, h3, h4, h4b, h5, h6, -⟩ := Cond.codeWith_spec h1
      cases hn.symm.trans hn9
      exact ⟨meth, c, h1, h2, h3, h4, h5, h6, h4b⟩
  refine MetFree.of_bodyS (code := cc) (maxLocals := maxL) (ret := ret) hy ?_ ?_
  · intro args s m h hn
    obtain ⟨meth, c, h1, h2, h3, h4, h5, h6, -⟩ := key args s m h hn
    exact ⟨meth, c, h1, h2, h3, h4, h5, h6⟩
  · intro p e s m args below meth c s₁ B hml hP _
    have hh0 : s₁.heap = s.heap := by rw [B.state]; rfl
    obtain ⟨meth', c', h1, h2, -, -, -, -, h7⟩ := key args s m B.pre B.named
    cases B.method.symm.trans h1
    cases (Stand.of_body B).code.symm.trans h2
    obtain ⟨t, a1, o, b1, b2, b3⟩ := body p e s m args below meth c s₁ B hml h7 hP s₁ hh0 (Stand.of_body B)
    exact ⟨t, o, a1, b1, b2, ⟨b3.1, b3.2⟩⟩
end AM7c
