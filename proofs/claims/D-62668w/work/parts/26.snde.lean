/-! THE SMALL MACHINE, 19: the real machine follows it: the ways of calling, ordinal -/
set_option maxRecDepth 100000
def am_yE : MethodName := ⟨"java/lang/Enum", "ordinal", "()I"⟩
theorem am_dE0 : decode prog_29_method_2_code 0 = .ok (.aload_n 0, 1) := by decide +kernel
theorem am_dE1 : decode prog_29_method_2_code 1 = .ok (.getfield 7, 3) := by decide +kernel
theorem am_dE4 : decode prog_29_method_2_code 4 = .ok (.ireturn, 1) := by decide +kernel
section OR
variable {p : Program} {l : Launch} {e : Env} {R : Room} {s : State} {m : MethodId} {args : Array Value} {below : List Frame} {meth : Method} {c : Code} {H : Heap} {locs : List Loc} {cells slots : Nat} {Q : State → Prop} {g : JFrame} {As rest : List Value} {own C : String} {idx : Nat} {b : Addr}
theorem am_invU {x y : MethodName} {owner : String} (hx : p.tables.exec = Jvm.exec) (hown : s.vm.findClass own = some m.cls) (hlink : (Cond.methodLink own idx x).before args s = true) (hsame : (Cond.sameMethod x.cls owner x.name x.desc).before args s = true) (hd0 : va_Decl s ⟨owner, x.name, x.desc⟩) (howner : owner ≠ "java/lang/invoke/MethodHandle" ∧ owner ≠ "java/lang/invoke/VarHandle")
    (hsel : (Cond.selects C x y).before args s = true) (hinst : (Cond.instanceMethod y).before args s = true) (hr : ∃ cell : Cell, H[b]? = some cell ∧ cell.vm.isStatics = false ∧ s.vm.findClass C = some cell.cls) (hg : g.method = m) (hlen : ∀ sig, parseMethodDescriptor x.desc = some sig → As.length = sig.parameters.length) (hstack : g.stack = As.reverse ++ .ref b :: rest) (hdg : decode c.code g.pc = .ok (.invokevirtual idx, 3)) :
    am_Inv p l e R s m args below meth c H y g (.ref b :: As) rest := by
  intro T locs cells slots hT X
  obtain ⟨cellB, hcell, hobj, hcls⟩ := hr
  obtain ⟨r0, r, hn, hrm, hstR, hsigR⟩ := hd0
  obtain ⟨cn, ck, r1, hcn, hck, hni, hf, hn1⟩ := Cond.sameMethod_found hsame
  cases hn.symm.trans hn1
  obtain ⟨mk, methM, hnamed, hmethM, -, habM⟩ := Cond.instanceMethod_spec hinst
  obtain ⟨c2, r2, m2, q1, q2, q3, q4, kP, hkP, hkPi⟩ := Cond.selects_spec hsel
  cases hcls.symm.trans q1
  cases hf.symm.trans q2
  cases hnamed.symm.trans q3
  have hselP : selectMethod e.platform s.vm cellB.cls r0 = .method mk := by rw [Launch.admits_selectMethod X.admits]; exact q4
  obtain ⟨vm₁, X₁, hstep₁⟩ := X.invokevirtualUp hx hown hlink hsame howner hn hrm hstR (a := b) (cell := cellB) (by rw [hT]; exact hcell)
    (fun z h => by rw [h] at hobj; cases hobj) hselP hmethM habM hkP hkPi (g := g) hg (argsL := As) (rest := rest) (hlen _ hsigR) hstack hdg
  exact ⟨vm₁, mk, X₁, X₁.named hnamed, fun target h => hstep₁ _ fun acts => by rw [doInvoke_state] at h ⊢; exact h⟩
def am_PE (r : Nat) (v : Int32) (a : Array Value) (U : State) : Prop := a = #[.ref r] ∧ ∃ (cell : Cell) (cf : Nat) (kf : Class) (fi : Nat) (fd : Field), U.heap[r]? = some cell ∧ cell.vm ≠ .unknown ∧ U.fieldFound? "java/lang/Enum" "ordinal" "I" = some (cf, kf, fi, fd) ∧ fd.isStatic = false ∧ cell.slots[fd.slot]? = some (.int v)
theorem am_metE (r : Nat) (v : Int32) : am_Met l am_yE (am_cdw am_yE prog_29_method_2_code 1 (some .int) [] :: lw_all) { frames := 0, cells := 0, slots := 0, locals := 0 } (am_PE r v) (fun _ s o t => o = .returned (some (.int v)) ∧ t.heap = s.heap) 0 0 (fun _ => False) := by
  refine am_ofW (by decide) ?_
  intro p e s m args below meth c s₁ B hml hex hP
  obtain ⟨rfl, cell, cf, kf, fi, fd, h1, h2, h3, h4, h5⟩ := hP
  have hts : ∀ w ∈ (am_cdw am_yE prog_29_method_2_code 1 (some .int) [] :: lw_all), w.before #[Value.ref r] s = true := atoms_spec B.pre
  have hown : s.vm.findClass "java/lang/Enum" = some m.cls := findClass_of_methodNamed B.named
  have hl := lv_entry ([.ref r]) (n := 1) (Nat.le_of_ble_eq_true rfl)
  rw [show (#[Value.ref r] : Array Value) = [Value.ref r].toArray from rfl, lg_entry_eq]
  generalize (lg_sl ([.ref r]) ++ List.replicate (1 - (lg_sl ([.ref r])).length) Slot.unset).toArray = ls at hl ⊢
  have hl : lv_has ls 1 [(0, .ref r)] := hl
  refine lv_aload_n B.exec B.bytes am_dE0 rfl (lv_at hl 0 rfl) ?_
  refine W.getf B.exec B.bytes hown (hts _ (List.mem_cons_of_mem _ q1960)) h3 h4 h1 h2 h5 rfl rfl am_dE1 ?_
  refine am_ofMQ ?_
  exact W.zret (ty := .int) B.exec B.bytes B.returns rfl (fun t ht hW => ⟨rfl, ht⟩) (fun q hq => by cases hq) am_dE4 (hlocks := B.notSynchronized)
theorem am_ordW {cc : ByteArray} {x : MethodName} {pc : Nat} {ls : Array Slot} {r : Nat} {v : Int32} (hx : p.tables.exec = Jvm.exec) (hb : c.code = cc) (hts : ∀ w ∈ lw_all, w.before args s = true) (hown : s.vm.findClass own = some m.cls) (hsize : ls.size = c.maxLocals)
    (hlink : Cond.methodLink own idx x ∈ lw_all) (hsame : Cond.sameMethod x.cls "java/lang/Enum" x.name x.desc ∈ lw_all) (hsel : Cond.selects C x am_yE ∈ lw_all) (hxn : x.name = "ordinal" ∧ x.desc = "()I") (hr : ∃ cell : Cell, H[r]? = some cell ∧ cell.vm.isStatics = false ∧ s.vm.findClass C = some cell.cls)
    (hP : ∀ U : State, U.heap = H → s.WarmedH U.vm → am_PE r v #[.ref r] U) (hT : (rest.map fun v => v.category).sum ≤ 8) (hfr : 1 ≤ R.frames) (hlo : 40 ≤ R.locals) (hc : cells ≤ R.cells) (hs : slots ≤ R.slots) (hd : decode cc pc = .ok (.invokevirtual idx, 3))
    (k : ∀ locs', (∀ q ∈ locs', q ∈ locs) → W p l e R s m args below meth c H locs' cells slots Q (F0 m (pc + 3) ls (.int v :: rest))) : W p l e R s m args below meth c H locs cells slots Q (F0 m pc ls (.ref r :: rest)) := by
  obtain ⟨hx1, hx2⟩ := hxn
  have hd0 : va_Decl s ⟨"java/lang/Enum", x.name, x.desc⟩ := by rw [hx1, hx2]; exact va_Decl.of (hts _ q388) (hts _ q389)
  have hI : am_Inv p l e R s m args below meth c H am_yE (F0 m pc ls (.ref r :: rest)) [.ref r] rest := am_invU (As := []) hx hown (hts _ hlink) (hts _ hsame) hd0 ⟨by decide, by decide⟩ (hts _ hsel) (hts _ q388) hr rfl (fun sig hsig => by
    rw [hx2] at hsig
    have : (parseMethodDescriptor "()I").map (fun d => d.parameters.length) = some 0 := by decide +kernel
    rw [hsig] at this
    exact (Option.some.inj this).symm) rfl (by rw [hb]; exact hd)
  have hws : ∀ w ∈ (am_cdw am_yE prog_29_method_2_code 1 (some .int) [] :: lw_all), ∀ (a' : Array Value) (U : State), s.WarmedH U.vm → w.before a' U = true := by
    refine pay_in hts (fun w hw => ?_)
    have hw2 : w ∈ lw_all := by
      rcases List.mem_cons.mp hw with rfl | hw
      · exact q389
      · exact hw
    exact ⟨hw2, good_of_word (List.mem_filter.mp hw2).2⟩
  refine am_callW hI (am_metE r v) (fun a U g mk h => h) rfl rfl (by show 0 + 1 ≤ _; omega) (by show 8 + (1 + 11) + 0 ≤ _; omega) hws List.mem_cons_self (hts _ q109) rfl hsize (by rw [hb]; exact hd) (by show 2 * 0 + _ ≤ 8; omega) (by omega) (by omega) hP ?_ ?_
  · intro w st t locs' hst hq hlo' hW
    obtain ⟨h1, h2⟩ := hq
    cases h1
    rw [h2, hst]
    exact k locs' (fun q hq => (hlo' q hq).elim (fun z => z) (fun z => z.elim))
  · intro y st t T' locs' hst hq
    cases hq.1
end OR
section SN5
variable {dC : Nat → ClassId} {dI : Nat → Nat → Nat} {dA : Nat → ClassId} {ad : Nat → Nat} {B0 : Nat} {H0 : Heap} {φ : Nat → Nat} {T0 : Nat} {m nL : Nat} {cc : ByteArray} {p : Program} {l : Launch} {e : Env} {R : Room} {s : State} {mi : MethodId} {args : Array Value} {below : List Frame} {meth : Method} {c : Code} {Z : State → Prop} {pc k : Nat} {i : Instr} {L : am_V} {S T : List Value} {h : am_H} {H : Heap} {locs : List Loc} {ls : Array Slot} {c0 s0 : Nat} {M : am_M} {Q : am_O → am_H → Prop}
theorem am_ord_ok (X : am_X dC dI dA ad B0 H0 φ T0 m nL cc p l R s mi args meth c) {a : Nat} (hk : (am_cd m).lookup pc = some (k, .invokevirtual 9998)) (ha : if k = 171 then a < 6 else 6 ≤ a ∧ a < 24) (hT : am_wt T)
    (hk2 : am_PP dC dI dA B0 H0 φ T0 nL p l e R s mi args below meth c Z (pc + 3) L (.int (Int32.ofNat (if k = 171 then a else a - 6)) :: T) h) : am_PP dC dI dA B0 H0 φ T0 nL p l e R s mi args below meth c Z pc L (.ref a :: T) h := by
  intro H locs ls c0 s0 hJ hlo hl hL
  obtain ⟨hd, hck⟩ := X.row hk
  obtain ⟨⟨hx, hb, hts, hown, -, -, hml, -⟩, ⟨hK, hE, hS0, F⟩, -, hR1, hR2, hR3, hR4⟩ := X
  have hE2 := hE
  obtain ⟨cf, kf, fi, fd, h1, h2, h3⟩ := hE
  have ha24 : a < 24 := by split at ha <;> omega
  obtain ⟨g1, cell, g2, g3, g4, g5, g6⟩ := h3 a ha24
  have hH : H[ad a]? = some cell := (hJ.1.2.2.1 _ g1).trans g2
  have hcap := hJ.2.2.2
  have hsz := hJ.size F
  have htt := hJ.2.2.1
  simp only [am_capC, am_capS] at hcap
  refine am_Wex fun z1 z2 => ?_
  have hkk : ∀ locs', (∀ q ∈ locs', q ∈ locs) → W p l e R s mi args below meth c H locs' (H.size - s.heap.size) (am_tot H - am_tot s.heap) Z (F0 mi (pc + 3) ls (.int (Int32.ofNat (if k = 171 then a else a - 6)) :: T.map (am_fv φ))) := fun locs' h' => hk2 H locs' ls _ _ hJ (fun q hq => hlo q (h' q hq)) hl hL
  show W p l e R s mi args below meth c H locs _ _ Z (F0 mi pc ls (.ref (φ (a + 1)) :: T.map (am_fv φ)))
  rw [F.2.2 a ha24]
  have hP : ∀ v, (v = Int32.ofNat (if a < 6 then a else a - 6)) → ∀ U : State, U.heap = H → s.WarmedH U.vm → am_PE (ad a) v #[.ref (ad a)] U := by
    rintro v rfl U hU hW
    obtain ⟨cf', kf', fi', fd', y1, y2, y3⟩ := hE2.moved hW.alike
    obtain ⟨-, cell', w2, w3, w4, w5, w6⟩ := y3 a ha24
    cases g2.symm.trans w2
    exact ⟨rfl, cell, cf', kf', fi', fd', by rw [hU]; exact hH, g3, y1, y2, w6⟩
  have hsz2 : ls.size = c.maxLocals := hl.1.trans hml.symm
  simp [am_ck1, am_od] at hck
  rcases hck with ⟨ho, rfl⟩ | ⟨ho, rfl⟩
  · rw [if_pos rfl] at ha
    rw [if_pos ha] at g5
    rw [ho] at hown
    exact am_ordW (x := ⟨"FunDesk$Sort", "ordinal", "()I"⟩) (C := "FunDesk$Sort") hx hb hts hown hsz2 q1322 q1323 q1324 ⟨rfl, rfl⟩ ⟨cell, hH, g4, g5⟩ (hP _ (by rw [if_pos rfl, if_pos ha])) (am_wt_fv hT) (by omega) (by omega) (by omega) (by omega) hd hkk
  · rw [if_neg (by decide)] at ha
    have hn6 : ¬ a < 6 := by omega
    rw [if_neg hn6] at g5
    rw [ho] at hown
    exact am_ordW (x := ⟨"FunDesk$Op", "ordinal", "()I"⟩) (C := "FunDesk$Op") hx hb hts hown hsz2 q384 q385 q387 ⟨rfl, rfl⟩ ⟨cell, hH, g4, g5⟩ (hP _ (by rw [if_neg (by decide), if_neg hn6])) (am_wt_fv hT) (by omega) (by omega) (by omega) (by omega) hd hkk
end SN5
