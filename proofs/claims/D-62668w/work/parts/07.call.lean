/-! THE SMALL MACHINE, 5: contracts with either outcome (a return or a throw), and calls. -/
set_option maxRecDepth 100000
def am_FE (first t : State) (L : List Loc) (k n : Nat) : Prop := first.WarmedH t.vm ∧ first.sameButNew ({ t with vm := first.vm } : State) L k n
def am_Met (l : Launch) (y : MethodName) (ws : List Cond) (rm : Room) (Pc : Array Value → State → Prop) (Qc : Array Value → State → Outcome → State → Prop) (mc ms : Nat) (free : Addr → Prop) : Prop :=
  MetFree l y (headSpec ws rm) Pc (fun _ _ _ _ _ => True) (fun a st o t => Qc a st o t ∧ ∃ L, am_FE st t L mc ms ∧ ∀ q ∈ L, free q.base)
def am_MQ (below : List Frame) (Qc : Array Value → State → Outcome → State → Prop) (a : Array Value) (s : State) (mc ms : Nat) (free : Addr → Prop) : State → Prop := fun t =>
  ∃ o, t.status = .running ∧ Ended t below o ∧ Qc a s o t ∧ ∃ L, am_FE s t L mc ms ∧ ∀ q ∈ L, free q.base
def am_cdw (y : MethodName) (bytes : ByteArray) (maxL : Nat) (ret : Option FieldType) (hh : List (Nat × Nat × Nat × Nat)) : Cond := if hh = [] then Cond.code y bytes maxL ret else Cond.codeWith y bytes maxL ret hh
theorem am_cdw_spec {args : Array Value} {s : State} {y : MethodName} {bytes : ByteArray} {maxL : Nat} {ret : Option FieldType} {hh : List (Nat × Nat × Nat × Nat)} {mk : MethodId} (hn : s.methodNamed? y = some mk) (h : (am_cdw y bytes maxL ret hh).before args s = true) :
    ∃ meth c, s.vm.method? mk = some meth ∧ meth.code = some c ∧ c.maxLocals = maxL ∧ parseMethodDescriptor y.desc = some meth.sig := by
  unfold am_cdw at h
  split at h
  · obtain ⟨meth, c, h1, h2, h3, h4, h5, h6, h7, h8⟩ := Cond.code_spec hn h
    exact ⟨meth, c, h1, h2, h4, h8⟩
  · obtain ⟨m9, meth, c, hn9, h1, h2, h3, h4, h5, h6, h7, h8⟩ := Cond.codeWith_spec h
    cases hn.symm.trans hn9
    exact ⟨meth, c, h1, h2, h4, h8⟩
section AM5
variable {l : Launch} {R : Room} {p : Program} {e : Env} {below : List Frame} {s : State} {sargs : Array Value} {y : MethodName} {len Wd : Nat}
/-- a callee with a contract comes back, or throws -/
theorem am_back {ws : List Cond} {rm : Room} {Pc : Array Value → State → Prop} {Qc : Array Value → State → Outcome → State → Prop} {mc ms : Nat} {free : Addr → Prop} {bytes : ByteArray} {maxL : Nat} {ret : Option FieldType} {hh : List (Nat × Nat × Nat × Nat)}
    (hM : am_Met l y ws rm Pc Qc mc ms free) (hblind : FrameBlind Pc) (hrc : rm.cells = mc) (hrs : rm.slots = ms)
    (hframes : rm.frames + 1 ≤ R.frames) (hlocals : Wd + (maxL + 11) + rm.locals ≤ R.locals)
    (hws : ∀ w ∈ ws, ∀ a' U, s.WarmedH U.vm → w.before a' U = true) (hcode : am_cdw y bytes maxL ret hh ∈ ws) (hinit : ∀ a' U, s.WarmedH U.vm → (Cond.initialized y.cls).before a' U = true)
    {m : MethodId} {meth : Method} {c : Code} {T : State} {locs : List Loc} {cells slots : Nat} {g : JFrame} {ig : Instr} {mk : MethodId} {a : Array Value} (X : Stand p l e R s m sargs below meth c T locs cells slots) (hg : g.method = m) (hsize : g.locals.size = c.maxLocals) (hdg : decode c.code g.pc = .ok (ig, len))
    (hW : 2 * g.monitorRoom + (g.stack.map fun v => v.category).sum ≤ Wd) (hn : T.methodNamed? y = some mk) (hc1 : cells + mc ≤ R.cells) (hc2 : slots + ms ≤ R.slots) (hPc : Pc a T) :
    ∃ (o : Outcome) (t T' : State) (L : List Loc), Stand p l e R s m sargs below meth c T' (locs ++ L) (cells + mc) (slots + ms) ∧ T'.heap = t.heap ∧ T'.vm = t.vm ∧ Qc a (T.calling g mk a) o t ∧ (∀ q ∈ L, free q.base) ∧
      (match o with
        | .returned v => Steps p.tables e below (doInvoke e (T.setTop g) [] mk a).1 (T'.setTop { g with pc := g.pc + len, stack := v.toList ++ g.stack })
        | .threw x => Steps p.tables e below (doInvoke e (T.setTop g) [] mk a).1 ((T'.setTop g).pushFrame (.throwing x))) := by
  have h1 : (headSpec ws rm).pre.before a T = true := atoms_intro fun w hw => hws w hw _ _ X.warmed
  have h2 := hws _ hcode a T X.warmed
  have h3 := hinit a T X.warmed
  obtain ⟨methY, cY, hmY, hcY, hlY, -⟩ := am_cdw_spec hn h2
  obtain ⟨kY, hkY, -⟩ := className_of_methodNamed hn
  have hinitY : kY.init = .initialized := Cond.initialized_spec (findClass_of_methodNamed hn) hkY h3
  have h : At T g.method c below := by rw [hg]; exact X.here
  have happ : (headSpec ws rm).appliesLoose y e.platform (T.calling g mk a) = true :=
    Spec.appliesLoose_calling (g := g) h hdg hn hkY hinitY
      (X.room_calling (g := g) (R' := (headSpec ws rm).room) hsize hmY hcY hframes (by rw [hlY]; show _ + rm.locals ≤ _; omega) (by show cells + rm.cells ≤ _; rw [hrc]; exact hc1) (by show slots + rm.slots ≤ _; rw [hrs]; exact hc2)) h1
  obtain ⟨mid, hmid⟩ := h.above
  have hfr : (T.setTop g).frames = (.java g :: mid) ++ below := by rw [State.frames_setTop' g h.top, hmid]; rfl
  obtain ⟨o, s₂, hsteps, -, hend, hq, L, hFE, hL⟩ := Steps.callFree hM p X.admits X.cas X.clock (acts := []) hfr happ (hblind _ _ _ _ hPc) trivial
  rw [State.frames_setTop' g h.top, show T.frames.tail = below from X.tail] at hend
  cases o with
  | returned v =>
    obtain ⟨T', X', hW', hs', ht⟩ := X.outOf hg hdg hend hFE.1 hFE.2
    exact ⟨.returned v, s₂, T', L, X', (by rw [ht]; rfl), (by rw [ht]; rfl), hq, hL, (by rw [ht] at hsteps; exact hsteps)⟩
  | threw x =>
    obtain ⟨T', X', hW', hs', ht⟩ := X.outOfThrown hg hend hFE.1 hFE.2
    exact ⟨.threw x, s₂, T', L, X', (by rw [ht]; rfl), (by rw [ht]; rfl), hq, hL, (by rw [ht] at hsteps; exact hsteps)⟩
end AM5
