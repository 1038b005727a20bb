/-! THE SMALL MACHINE, 6: the ways a call begins (am_Inv), and the call as a whole. -/
set_option maxRecDepth 100000
section AM6
variable {p : Program} {l : Launch} {e : Env} {R : Room} {s : State} {m : MethodId} {args : Array Value} {below : List Frame} {meth : Method} {c : Code} {H : Heap} {locs : List Loc} {cells slots : Nat} {Q : State → Prop} {y : MethodName} {g : JFrame} {As rest : List Value} {own C : String} {idx : Nat} {bytes : ByteArray} {maxL : Nat} {ret : Option FieldType} {hh : List (Nat × Nat × Nat × Nat)} {b : Addr}
def am_Inv (p : Program) (l : Launch) (e : Env) (R : Room) (s : State) (m : MethodId) (args : Array Value) (below : List Frame) (meth : Method) (c : Code) (H : Heap) (y : MethodName) (g : JFrame) (a rest : List Value) : Prop :=
  ∀ (T : State) (locs : List Loc) (cells slots : Nat), T.heap = H → Stand p l e R s m args below meth c T locs cells slots → ∃ (vm₁ : Vm) (mk : MethodId), Stand p l e R s m args below meth c (T.setVm vm₁) locs cells slots ∧ (T.setVm vm₁).methodNamed? y = some mk ∧
    ∀ target, Steps p.tables e below (doInvoke e ((T.setVm vm₁).setTop { g with stack := rest }) [] mk a.toArray).1 target → Steps p.tables e below (T.setTop g) target
theorem am_invV (hx : p.tables.exec = Jvm.exec) (hown : s.vm.findClass own = some m.cls) (hlink : (Cond.methodLink own idx y).before args s = true) (hinst : (Cond.instanceMethod y).before args s = true) (hsel : (Cond.selects C y y).before args s = true) (hcode : (am_cdw y bytes maxL ret hh).before args s = true) (hy : y.cls ≠ "java/lang/invoke/MethodHandle" ∧ y.cls ≠ "java/lang/invoke/VarHandle")
    (hr : ∃ cell : Cell, H[b]? = some cell ∧ cell.vm.isStatics = false ∧ s.vm.findClass C = some cell.cls) (hg : g.method = m) (hlen : ∀ sig, parseMethodDescriptor y.desc = some sig → As.length = sig.parameters.length) (hstack : g.stack = As.reverse ++ .ref b :: rest) (hdg : decode c.code g.pc = .ok (.invokevirtual idx, 3)) :
    am_Inv p l e R s m args below meth c H y g (.ref b :: As) rest := by
  intro T locs cells slots hT X
  obtain ⟨cellB, hcell, hobj, hcls⟩ := hr
  obtain ⟨mk, methM, hnamed, hmethM, hstM, habM⟩ := Cond.instanceMethod_spec hinst
  obtain ⟨methM', cM, hmethM', -, -, hsigM⟩ := am_cdw_spec hnamed hcode
  cases hmethM.symm.trans hmethM'
  obtain ⟨c2, r2, m2, q1, q2, q3, q4, kP, hkP, hkPi⟩ := Cond.selects_spec hsel
  cases hcls.symm.trans q1
  cases (State.methodFound?_of_named hnamed hy).symm.trans q2
  cases hnamed.symm.trans q3
  have hselP : selectMethod e.platform s.vm cellB.cls mk = .method mk := by rw [Launch.admits_selectMethod X.admits]; exact q4
  obtain ⟨vm₁, X₁, hstep₁⟩ := X.invokevirtual hx hown hlink hnamed hmethM hstM hkP hkPi hy (a := b) (cell := cellB) (by rw [hT]; exact hcell)
    (fun z h => by rw [h] at hobj; cases hobj) hselP hmethM habM hkP hkPi (g := g) hg (argsL := As) (rest := rest) (hlen _ hsigM) hstack hdg
  exact ⟨vm₁, mk, X₁, X₁.named hnamed, fun target h => hstep₁ _ fun acts => by rw [doInvoke_state] at h ⊢; exact h⟩
theorem am_invVN {host : String} (hx : p.tables.exec = Jvm.exec) (hown : s.vm.findClass own = some m.cls) (hlink : (Cond.methodLinkNest own idx y host).before args s = true) (hinst : (Cond.instanceMethod y).before args s = true) (hsel : (Cond.selects C y y).before args s = true) (hcode : (am_cdw y bytes maxL ret hh).before args s = true) (hy : y.cls ≠ "java/lang/invoke/MethodHandle" ∧ y.cls ≠ "java/lang/invoke/VarHandle")
    (hr : ∃ cell : Cell, H[b]? = some cell ∧ cell.vm.isStatics = false ∧ s.vm.findClass C = some cell.cls) (hg : g.method = m) (hlen : ∀ sig, parseMethodDescriptor y.desc = some sig → As.length = sig.parameters.length) (hstack : g.stack = As.reverse ++ .ref b :: rest) (hdg : decode c.code g.pc = .ok (.invokevirtual idx, 3)) :
    am_Inv p l e R s m args below meth c H y g (.ref b :: As) rest := by
  intro T locs cells slots hT X
  obtain ⟨cellB, hcell, hobj, hcls⟩ := hr
  obtain ⟨mk, methM, hnamed, hmethM, hstM, habM⟩ := Cond.instanceMethod_spec hinst
  obtain ⟨methM', cM, hmethM', -, -, hsigM⟩ := am_cdw_spec hnamed hcode
  cases hmethM.symm.trans hmethM'
  obtain ⟨c2, r2, m2, q1, q2, q3, q4, kP, hkP, hkPi⟩ := Cond.selects_spec hsel
  cases hcls.symm.trans q1
  cases (State.methodFound?_of_named hnamed hy).symm.trans q2
  cases hnamed.symm.trans q3
  have hselP : selectMethod e.platform s.vm cellB.cls mk = .method mk := by rw [Launch.admits_selectMethod X.admits]; exact q4
  obtain ⟨vm₁, X₁, hstep₁⟩ := X.invokevirtualNest hx hown hlink hnamed hmethM hstM hkP hkPi hy (a := b) (cell := cellB) (by rw [hT]; exact hcell)
    (fun z h => by rw [h] at hobj; cases hobj) hselP hmethM habM hkP hkPi (g := g) hg (argsL := As) (rest := rest) (hlen _ hsigM) hstack hdg
  exact ⟨vm₁, mk, X₁, X₁.named hnamed, fun target h => hstep₁ _ fun acts => by rw [doInvoke_state] at h ⊢; exact h⟩
theorem am_named (hcode : (am_cdw y bytes maxL ret hh).before args s = true) : ∃ mk, s.methodNamed? y = some mk := by
  unfold am_cdw at hcode
  split at hcode
  · exact Cond.code_named hcode
  · obtain ⟨m9, meth, c, hn9, -⟩ := Cond.codeWith_spec hcode
    exact ⟨_, hn9⟩
theorem am_invS (hx : p.tables.exec = Jvm.exec) (hown : s.vm.findClass own = some m.cls) (hlink : (Cond.methodLink own idx y).before args s = true) (hstat : (Cond.static y).before args s = true) (hinit : (Cond.initialized y.cls).before args s = true) (hcode : (am_cdw y bytes maxL ret hh).before args s = true) (hy : y.cls ≠ "java/lang/invoke/MethodHandle" ∧ y.cls ≠ "java/lang/invoke/VarHandle")
    (hg : g.method = m) (hlen : ∀ sig, parseMethodDescriptor y.desc = some sig → As.length = sig.parameters.length) (hstack : g.stack = As.reverse ++ rest) (hdg : decode c.code g.pc = .ok (.invokestatic idx, 3)) :
    am_Inv p l e R s m args below meth c H y g As rest := by
  intro T locs cells slots hT X
  obtain ⟨mk, hnamed⟩ := am_named hcode
  obtain ⟨methM, cM, hmethM, -, -, hsigM⟩ := am_cdw_spec hnamed hcode
  have hstatic : methM.isStatic = true := Cond.static_spec hnamed hmethM hstat
  obtain ⟨kP, hkP, -⟩ := className_of_methodNamed hnamed
  have hinitP : kP.init = .initialized := Cond.initialized_spec (findClass_of_methodNamed hnamed) hkP hinit
  obtain ⟨vm₁, X₁, hstep₁⟩ := X.invokestatic hx hown hlink hnamed hmethM hstatic hkP hinitP hy (g := g) hg (argsL := As) (rest := rest) (hlen _ hsigM) hstack hdg
  exact ⟨vm₁, mk, X₁, X₁.named hnamed, fun target h => hstep₁ _ fun acts => by rw [doInvoke_state] at h ⊢; exact h⟩
theorem am_invSN {host : String} (hx : p.tables.exec = Jvm.exec) (hown : s.vm.findClass own = some m.cls) (hlink : (Cond.methodLinkNest own idx y host).before args s = true) (hstat : (Cond.static y).before args s = true) (hinit : (Cond.initialized y.cls).before args s = true) (hcode : (am_cdw y bytes maxL ret hh).before args s = true) (hy : y.cls ≠ "java/lang/invoke/MethodHandle" ∧ y.cls ≠ "java/lang/invoke/VarHandle")
    (hg : g.method = m) (hlen : ∀ sig, parseMethodDescriptor y.desc = some sig → As.length = sig.parameters.length) (hstack : g.stack = As.reverse ++ rest) (hdg : decode c.code g.pc = .ok (.invokestatic idx, 3)) :
    am_Inv p l e R s m args below meth c H y g As rest := by
  intro T locs cells slots hT X
  obtain ⟨mk, hnamed⟩ := am_named hcode
  obtain ⟨methM, cM, hmethM, -, -, hsigM⟩ := am_cdw_spec hnamed hcode
  have hstatic : methM.isStatic = true := Cond.static_spec hnamed hmethM hstat
  obtain ⟨kP, hkP, -⟩ := className_of_methodNamed hnamed
  have hinitP : kP.init = .initialized := Cond.initialized_spec (findClass_of_methodNamed hnamed) hkP hinit
  obtain ⟨vm₁, X₁, hstep₁⟩ := X.invokestaticNest hx hown hlink hnamed hmethM hstatic hkP hinitP hy (g := g) hg (argsL := As) (rest := rest) (hlen _ hsigM) hstack hdg
  exact ⟨vm₁, mk, X₁, X₁.named hnamed, fun target h => hstep₁ _ fun acts => by rw [doInvoke_state] at h ⊢; exact h⟩
theorem am_invI (hx : p.tables.exec = Jvm.exec) (hown : s.vm.findClass own = some m.cls) (hy1 : y.name = "<init>") (hlink : (Cond.methodLink own idx y).before args s = true) (hinst : (Cond.instanceMethod y).before args s = true) (hcode : (Cond.code y bytes maxL none).before args s = true) (hy : y.cls ≠ "java/lang/invoke/MethodHandle" ∧ y.cls ≠ "java/lang/invoke/VarHandle")
    (hg : g.method = m) (hlen : ∀ sig, parseMethodDescriptor y.desc = some sig → As.length = sig.parameters.length) (hstack : g.stack = As.reverse ++ .ref b :: rest) (hdg : decode c.code g.pc = .ok (.invokespecial idx, 3)) :
    am_Inv p l e R s m args below meth c H y g (.ref b :: As) rest := by
  intro T locs cells slots hT X
  subst hg
  have hpl : e.platform.magicAccessors = ({} : Platform).magicAccessors := by rw [X.admits.platform]
  obtain ⟨mk, methM, cM, kP, vm₁, hnamed, hmethM, hcodeM, -, hlocalsM, -, hkP, -, hW₁, hstep₁⟩ := Steps.initColdArgs (e := e) X.here hx X.warmed hpl hown hy1 hy hlink hinst hcode (f := g) rfl hlen hstack hdg
  have X₁ := X.noted hW₁
  exact ⟨vm₁, mk, X₁, X₁.named hnamed, fun target h => hstep₁ _ fun acts => by rw [doInvoke_state] at h ⊢; exact h⟩
theorem am_invIN {host : String} (hx : p.tables.exec = Jvm.exec) (hown : s.vm.findClass own = some m.cls) (hy1 : y.name = "<init>") (hlink : (Cond.methodLinkNest own idx y host).before args s = true) (hinst : (Cond.instanceMethod y).before args s = true) (hcode : (Cond.code y bytes maxL none).before args s = true) (hy : y.cls ≠ "java/lang/invoke/MethodHandle" ∧ y.cls ≠ "java/lang/invoke/VarHandle")
    (hg : g.method = m) (hlen : ∀ sig, parseMethodDescriptor y.desc = some sig → As.length = sig.parameters.length) (hstack : g.stack = As.reverse ++ .ref b :: rest) (hdg : decode c.code g.pc = .ok (.invokespecial idx, 3)) :
    am_Inv p l e R s m args below meth c H y g (.ref b :: As) rest := by
  intro T locs cells slots hT X
  subst hg
  have hpl : e.platform.magicAccessors = ({} : Platform).magicAccessors := by rw [X.admits.platform]
  obtain ⟨mk, methM, cM, kP, vm₁, hnamed, hmethM, hcodeM, -, hlocalsM, -, hkP, -, hW₁, hstep₁⟩ := Steps.initColdArgsNest (e := e) X.here hx X.warmed hpl hown hy1 hy hlink hinst hcode (f := g) rfl hlen hstack hdg
  have X₁ := X.noted hW₁
  exact ⟨vm₁, mk, X₁, X₁.named hnamed, fun target h => hstep₁ _ fun acts => by rw [doInvoke_state] at h ⊢; exact h⟩
theorem am_invF {x : MethodName} {cnt : Nat} {cC : ClassId} (hx : p.tables.exec = Jvm.exec) (hown : s.vm.findClass own = some m.cls) (hlink : (Cond.methodLink own idx x).before args s = true) (hF : va_Fw C x y s) (hsel : (Cond.selects C x y).before args s = true) (hinst : (Cond.instanceMethod y).before args s = true) (hxc : x.cls ≠ "java/lang/invoke/MethodHandle" ∧ x.cls ≠ "java/lang/invoke/VarHandle") (hat : ClassAt s C cC)
    (hr : ∃ cell : Cell, H[b]? = some cell ∧ cell.vm.isStatics = false ∧ s.vm.findClass C = some cell.cls) (hg : g.method = m) (hlen : ∀ sig, parseMethodDescriptor x.desc = some sig → As.length = sig.parameters.length) (hstack : g.stack = As.reverse ++ .ref b :: rest) (hdg : decode c.code g.pc = .ok (.invokeinterface idx cnt, 5)) :
    am_Inv p l e R s m args below meth c H y g (.ref b :: As) rest := by
  intro T locs cells slots hT X
  obtain ⟨cellB, hcell, hobj, hcls⟩ := hr
  obtain ⟨hfc, kB, hkB, -⟩ := hat
  cases hfc.symm.trans hcls
  have hdecl := va_any (A' := args) rfl hF.1
  have hface := va_any (A' := args) rfl hF.2.1
  have hpub := va_any (A' := args) rfl hF.2.2.1
  have hunh := va_any (A' := args) rfl hF.2.2.2.1
  have hcast := va_any (A' := args) rfl hF.2.2.2.2
  obtain ⟨r0, r, hn, hrm, hstR, hsigR⟩ := Cond.declares_spec hdecl
  obtain ⟨cL, kL, r1, hcL, hkL, hiL, hfoundL, hn1⟩ := Cond.interfaceMethod_spec hface
  cases hn.symm.trans hn1
  have hr0cls : r0.cls = cL := Option.some.inj ((findClass_of_methodNamed hn).symm.trans hcL)
  obtain ⟨hnameR, hdescR⟩ := name_of_methodNamed hn hrm
  obtain ⟨mk, methM, hnamed, hmethM, -, habM⟩ := Cond.instanceMethod_spec hinst
  obtain ⟨c2, r2, m2, q1, q2, q3, q4, -⟩ := Cond.selects_spec hsel
  cases hcls.symm.trans q1
  cases hfoundL.symm.trans q2
  cases hnamed.symm.trans q3
  have hselP : selectMethod e.platform s.vm cellB.cls r0 = .method mk := by rw [Launch.admits_selectMethod X.admits]; exact q4
  have hpubM : hasFlag methM.accessFlags Acc.public_ = true := Cond.publicMethod_spec hnamed hmethM hpub
  have hway : ((cellB.cls :: s.vm.superclasses cellB.cls).any fun k => (declaredIn s.vm r.name r.desc k).any fun (_, z) => z.isPrivate || z.isStatic) = false := by
    rw [hnameR, hdescR]; exact Cond.unhidden_spec hcls hunh
  obtain ⟨c3, t3, w1, w2, w3⟩ := Cond.castable_spec hcast
  cases hcls.symm.trans w1
  cases hcL.symm.trans w2
  obtain ⟨vm₁, X₁, hstep₁⟩ := X.invokeinterface hx hown hlink hn hrm hstR (by rw [hr0cls]; exact hkL) hiL hxc (a := b) (cell := cellB) (kcell := kB) (by rw [hT]; exact hcell)
    (fun z h => by rw [h] at hobj; cases hobj) hkB (by rw [hr0cls]; exact w3) hselP hmethM hway hpubM habM (g := g) hg (argsL := As) (rest := rest) (hlen _ hsigR) hstack hdg
  exact ⟨vm₁, mk, X₁, X₁.named hnamed, fun target h => hstep₁ _ fun acts => by rw [doInvoke_state] at h ⊢; exact h⟩
/-- a call as a whole: it comes back, and the walk goes on; or it throws, and what follows is 'kt' -/
theorem am_callW {ws : List Cond} {rm : Room} {Pc : Array Value → State → Prop} {Qc : Array Value → State → Outcome → State → Prop} {mc ms len : Nat} {free : Addr → Prop} {ig : Instr}
    (hI : am_Inv p l e R s m args below meth c H y g As rest) (hM : am_Met l y ws rm Pc Qc mc ms free) (hblind : FrameBlind Pc) (hrc : rm.cells = mc) (hrs : rm.slots = ms)
    (hframes : rm.frames + 1 ≤ R.frames) (hlocals : 8 + (maxL + 11) + rm.locals ≤ R.locals) (hws : ∀ w ∈ ws, ∀ a' U, s.WarmedH U.vm → w.before a' U = true) (hcode : am_cdw y bytes maxL ret hh ∈ ws) (hinit : (Cond.initialized y.cls).before args s = true)
    (hg : g.method = m) (hsize : g.locals.size = c.maxLocals) (hdg : decode c.code g.pc = .ok (ig, len)) (hW : 2 * g.monitorRoom + (rest.map fun v => v.category).sum ≤ 8) (hc1 : cells + mc ≤ R.cells) (hc2 : slots + ms ≤ R.slots)
    (hPc : ∀ U : State, U.heap = H → s.WarmedH U.vm → Pc As.toArray U)
    (kr : ∀ (v : Option Value) (st t : State) (locs' : List Loc), st.heap = H → Qc As.toArray st (.returned v) t → (∀ q ∈ locs', q ∈ locs ∨ free q.base) → s.WarmedH t.vm → W p l e R s m args below meth c t.heap locs' (cells + mc) (slots + ms) Q { g with pc := g.pc + len, stack := v.toList ++ rest })
    (kt : ∀ (x : Addr) (st t T' : State) (locs' : List Loc), st.heap = H → Qc As.toArray st (.threw x) t → (∀ q ∈ locs', q ∈ locs ∨ free q.base) → s.WarmedH t.vm → T'.heap = t.heap → Stand p l e R s m args below meth c T' locs' (cells + mc) (slots + ms) → ∃ t', Steps p.tables e below ((T'.setTop { g with stack := rest }).pushFrame (.throwing x)) t' ∧ Q t') :
    W p l e R s m args below meth c H locs cells slots Q g := by
  intro T hT X
  obtain ⟨vm₁, mk, X₁, hn, hst⟩ := hI T locs cells slots hT X
  have hini : ∀ a' U, s.WarmedH U.vm → (Cond.initialized y.cls).before a' U = true := fun a' U hW => word_at hW (Or.inl (by first | rfl | simp [Cond.onTables, Cond.keeps, Cond.steady])) hinit
  obtain ⟨o, t, T', L, X', e1, e2, hq, hL, hs⟩ := am_back (g := { g with stack := rest }) hM hblind hrc hrs hframes hlocals hws hcode hini X₁ hg hsize hdg hW hn hc1 hc2 (hPc _ hT X₁.warmed)
  have hlo : ∀ q ∈ locs ++ L, q ∈ locs ∨ free q.base := by
    intro q h
    rcases List.mem_append.mp h with h | h
    · exact Or.inl h
    · exact Or.inr (hL q h)
  cases o with
  | returned v =>
    obtain ⟨t2, a1, b1⟩ := kr v _ t _ (by exact hT) hq hlo (by rw [← e2]; exact X'.warmed) T' e1 X'
    exact ⟨t2, hst _ (hs.trans a1), b1⟩
  | threw x =>
    obtain ⟨t2, a1, b1⟩ := kt x _ t T' _ (by exact hT) hq hlo (by rw [← e2]; exact X'.warmed) e1 X'
    exact ⟨t2, hst _ (hs.trans a1), b1⟩
end AM6
