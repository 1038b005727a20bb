/-! THE SMALL MACHINE, 2: locals and branches. A branch of the small machine names its target (absolute); am_raw gives the instruction as it stands in the bytes. -/
set_option maxRecDepth 100000
abbrev am_L : Type := List (Nat × Value)
def am_st1 (L : am_L) (i : Nat) (v : Value) : am_L := (i, v) :: L.filter (fun q => !(q.1 == i) && !(q.1 + 1 == i && q.2.category == 2))
def am_st2 (L : am_L) (i : Nat) (v : Value) : am_L := (i, v) :: L.filter (fun q => !(q.1 == i) && (!(q.1 == i + 1) && !(q.1 + 1 == i && q.2.category == 2)))
def am_ldI (L : am_L) (i : Nat) (S : List Value) : Option (am_L × List Value) := match L.lookup i with
  | some (.int x) => some (L, .int x :: S)
  | _ => none
def am_ldL (L : am_L) (i : Nat) (S : List Value) : Option (am_L × List Value) := match L.lookup i with
  | some (.long x) => some (L, .long x :: S)
  | _ => none
def am_ldD (L : am_L) (i : Nat) (S : List Value) : Option (am_L × List Value) := match L.lookup i with
  | some (.double x) => some (L, .double x :: S)
  | _ => none
def am_ldA (L : am_L) (i : Nat) (S : List Value) : Option (am_L × List Value) := match L.lookup i with
  | some (.ref x) => some (L, .ref x :: S)
  | some .null => some (L, .null :: S)
  | _ => none
def am_stI (nL : Nat) (L : am_L) (i : Nat) (S : List Value) : Option (am_L × List Value) := match S with
  | .int x :: T => if i < nL then some (am_st1 L i (.int x), T) else none
  | _ => none
def am_stL (nL : Nat) (L : am_L) (i : Nat) (S : List Value) : Option (am_L × List Value) := match S with
  | .long x :: T => if i + 1 < nL then some (am_st2 L i (.long x), T) else none
  | _ => none
def am_stD (nL : Nat) (L : am_L) (i : Nat) (S : List Value) : Option (am_L × List Value) := match S with
  | .double x :: T => if i + 1 < nL then some (am_st2 L i (.double x), T) else none
  | _ => none
def am_stA (nL : Nat) (L : am_L) (i : Nat) (S : List Value) : Option (am_L × List Value) := match S with
  | .ref x :: T => if i < nL then some (am_st1 L i (.ref x), T) else none
  | .null :: T => if i < nL then some (am_st1 L i .null, T) else none
  | _ => none
def am_inc (nL : Nat) (L : am_L) (i : Nat) (n : Int) (S : List Value) : Option (am_L × List Value) := match L.lookup i with
  | some (.int x) => if i < nL then some (am_st1 L i (.int (x + Int32.ofInt n)), S) else none
  | _ => none
def am_loc (nL : Nat) (i : Instr) (L : am_L) (S : List Value) : Option (am_L × List Value) := match i with
  | .iload_n k => am_ldI L k S
  | .iload k => am_ldI L k S
  | .lload_n k => am_ldL L k S
  | .lload k => am_ldL L k S
  | .dload_n k => am_ldD L k S
  | .dload k => am_ldD L k S
  | .aload_n k => am_ldA L k S
  | .aload k => am_ldA L k S
  | .istore_n k => am_stI nL L k S
  | .istore k => am_stI nL L k S
  | .lstore_n k => am_stL nL L k S
  | .lstore k => am_stL nL L k S
  | .dstore_n k => am_stD nL L k S
  | .dstore k => am_stD nL L k S
  | .astore_n k => am_stA nL L k S
  | .astore k => am_stA nL L k S
  | .iinc k n => am_inc nL L k n S
  | _ => none
def am_cmp (c : Jvm.ClassFile.Cond) (x y : Int32) : Prop := match c with
  | .eq => x = y
  | .ne => ¬ x = y
  | .lt => x < y
  | .ge => y ≤ x
  | .gt => y < x
  | .le => x ≤ y
def am_isR : Value → Bool
  | .ref _ => true
  | .null => true
  | _ => false
theorem am_isR_rf {v : Value} (h : am_isR v = true) : ∃ r, v = va_rf r := by
  cases v <;> simp [am_isR] at h
  · exact ⟨none, rfl⟩
  · exact ⟨some _, rfl⟩
/-- a branch: its condition, its target, the stack behind it -/
def am_br (i : Instr) (S : List Value) : Option (Prop × Int × List Value) := match i with
  | .goto t => some (True, t, S)
  | .ifCond c t => (match S with
    | .int x :: T => some (am_cmp c x 0, t, T)
    | _ => none)
  | .if_icmp c t => (match S with
    | .int y :: .int x :: T => some (am_cmp c x y, t, T)
    | _ => none)
  | .if_acmp c t => (match S with
    | y :: x :: T => if am_isR x = true ∧ am_isR y = true then some ((match c with
      | .eq => x = y
      | .ne => ¬ x = y), t, T) else none
    | _ => none)
  | .ifnull t => (match S with
    | .null :: T => some (True, t, T)
    | .ref _ :: T => some (False, t, T)
    | _ => none)
  | .ifnonnull t => (match S with
    | .null :: T => some (False, t, T)
    | .ref _ :: T => some (True, t, T)
    | _ => none)
  | _ => none
/-- a switch: where it goes, and the stack behind it -/
def am_sw (i : Instr) (S : List Value) : Option (Int × List Value) := match i with
  | .tableswitch d lo hi offs => (match S with
    | .int x :: T => if x.toInt < lo ∨ hi < x.toInt then some (d, T) else (offs[(x.toInt - lo).toNat]?).map (fun o => (o, T))
    | _ => none)
  | .lookupswitch d ps => (match S with
    | .int x :: T => if (ps.toList.zip (ps.toList.drop 1)).all (fun (a, next) => a.1 < next.1) = true then some (Op.lookupswitch.offset ps.toList d x.toInt, T) else none
    | _ => none)
  | _ => none
/-- the instruction as it stands in the bytes at pc: k is the entry of the constant pool (of a switch: its length) -/
def am_raw (pc k : Nat) (i : Instr) : Instr := match i with
  | .goto t => .goto (t - pc)
  | .ifCond c t => .ifCond c (t - pc)
  | .if_icmp c t => .if_icmp c (t - pc)
  | .if_acmp c t => .if_acmp c (t - pc)
  | .ifnull t => .ifnull (t - pc)
  | .ifnonnull t => .ifnonnull (t - pc)
  | .tableswitch d lo hi offs => .tableswitch (d - pc) lo hi (offs.map (fun t => t - (pc : Int)))
  | .lookupswitch d ps => .lookupswitch (d - pc) (ps.map (fun q => (q.1, q.2 - (pc : Int))))
  | .getfield _ => .getfield k
  | .putfield _ => .putfield k
  | .getstatic _ => .getstatic k
  | .invokevirtual _ => .invokevirtual k
  | .invokespecial _ => .invokespecial k
  | .invokestatic _ => .invokestatic k
  | .invokeinterface _ n => .invokeinterface k n
  | .new _ => .new k
  | .anewarray _ => .anewarray k
  | .checkcast _ => .checkcast k
  | .instanceof _ => .instanceof k
  | .ldc _ => .ldc k
  | .ldc2_w _ => .ldc2_w k
  | i => i
def am_ln (k : Nat) (i : Instr) : Nat := match i with
  | .tableswitch .. => k
  | .lookupswitch .. => k
  | i => am_len i
theorem am_lookup_mem {L : am_L} {i : Nat} {v : Value} (h : L.lookup i = some v) : (i, v) ∈ L := by
  induction L with
  | nil => cases h
  | cons q T ih =>
    obtain ⟨j, w⟩ := q
    rw [List.lookup_cons] at h
    split at h
    · rename_i e; cases h; have e := eq_of_beq e; subst e; exact List.mem_cons_self
    · exact List.mem_cons_of_mem _ (ih h)
theorem am_has {ls : Array Slot} {nL : Nat} {L : am_L} (hl : lv_has ls nL L) {i : Nat} {v : Value} (h : L.lookup i = some v) : ls[i]? = some (.val v) := hl.2.2 (i, v) (am_lookup_mem h)
theorem am_osw {pc : Nat} : ∀ (l : List (Int × Int)) (d x : Int), Op.lookupswitch.offset (l.map (fun q => (q.1, q.2 - (pc : Int)))) (d - pc) x = Op.lookupswitch.offset l d x - pc := by
  intro l
  induction l with
  | nil => intro d x; rfl
  | cons q T ih =>
    intro d x
    simp only [List.map_cons, Op.lookupswitch.offset]
    split
    · rfl
    · exact ih d x
theorem am_srt {pc : Nat} (l : List (Int × Int)) (h : (l.zip (l.drop 1)).all (fun (a, next) => a.1 < next.1) = true) : ((l.map (fun q => (q.1, q.2 - (pc : Int)))).zip ((l.map (fun q => (q.1, q.2 - (pc : Int)))).drop 1)).all (fun (a, next) => a.1 < next.1) = true := by
  rw [← List.map_drop, List.zip_map, List.all_map]
  exact h
section AM2
variable {p : Program} {l : Launch} {e : Env} {R : Room} {s : State} {m : MethodId} {args : Array Value} {below : List Frame} {meth : Method} {c : Code} {H : Heap} {locs : List Loc} {cells slots : Nat} {Q : State → Prop} {cc : ByteArray} {pc : Nat} {ls : Array Slot}
set_option maxHeartbeats 4000000 in
theorem am_loc_W (hx : p.tables.exec = Jvm.exec) (hb : c.code = cc) {nL : Nat} {i : Instr} {L L' : am_L} {S S' : List Value} (h : am_loc nL i L S = some (L', S')) (hl : lv_has ls nL L) (hd : decode cc pc = .ok (i, am_len i))
    (k : ∀ ls' : Array Slot, lv_has ls' nL L' → W p l e R s m args below meth c H locs cells slots Q (F0 m (pc + am_len i) ls' S')) : W p l e R s m args below meth c H locs cells slots Q (F0 m pc ls S) := by
  unfold am_loc at h
  split at h
  · unfold am_ldI at h
    split at h
    · rename_i e0; cases h; exact lv_iload_n hx hb hd rfl (am_has hl e0) (k _ hl)
    · cases h
  · unfold am_ldI at h
    split at h
    · rename_i e0; cases h; exact lv_iload hx hb hd (am_has hl e0) (k _ hl)
    · cases h
  · unfold am_ldL at h
    split at h
    · rename_i e0; cases h; exact lv_lload_n hx hb hd rfl (am_has hl e0) (k _ hl)
    · cases h
  · unfold am_ldL at h
    split at h
    · rename_i e0; cases h; exact lv_lload hx hb hd (am_has hl e0) (k _ hl)
    · cases h
  · unfold am_ldD at h
    split at h
    · rename_i e0; cases h; exact lv_dload_n hx hb hd rfl (am_has hl e0) (k _ hl)
    · cases h
  · unfold am_ldD at h
    split at h
    · rename_i e0; cases h; exact lv_dload hx hb hd (am_has hl e0) (k _ hl)
    · cases h
  · unfold am_ldA at h
    split at h
    · rename_i e0; cases h; exact lv_aload_n hx hb hd rfl (am_has hl e0) (k _ hl)
    · rename_i e0; cases h; exact lv_aload_nN hx hb hd rfl (am_has hl e0) (k _ hl)
    · cases h
  · unfold am_ldA at h
    split at h
    · rename_i e0; cases h; exact lv_aload hx hb hd (am_has hl e0) (k _ hl)
    · rename_i e0; cases h; exact lv_aloadN hx hb hd (am_has hl e0) (k _ hl)
    · cases h
  · unfold am_stI at h
    split at h
    · split at h
      · rename_i hn; cases h; exact lv_istore_n hx hb hd rfl hl hn rfl k
      · cases h
    · cases h
  · unfold am_stI at h
    split at h
    · split at h
      · rename_i hn; cases h; exact lv_istore hx hb hd hl hn rfl k
      · cases h
    · cases h
  · unfold am_stL at h
    split at h
    · split at h
      · rename_i hn; cases h; exact lv_lstore_n hx hb hd rfl hl hn rfl k
      · cases h
    · cases h
  · unfold am_stL at h
    split at h
    · split at h
      · rename_i hn; cases h; exact lv_lstore hx hb hd hl hn rfl k
      · cases h
    · cases h
  · unfold am_stD at h
    split at h
    · split at h
      · rename_i hn; cases h; exact lv_dstore_n hx hb hd rfl hl hn rfl k
      · cases h
    · cases h
  · unfold am_stD at h
    split at h
    · split at h
      · rename_i hn; cases h; exact lv_dstore hx hb hd hl hn rfl k
      · cases h
    · cases h
  · unfold am_stA at h
    split at h
    · split at h
      · rename_i hn; cases h; exact lv_astore_n hx hb hd rfl hl hn rfl k
      · cases h
    · split at h
      · rename_i hn; cases h; exact lv_astore_nN hx hb hd rfl hl hn rfl k
      · cases h
    · cases h
  · unfold am_stA at h
    split at h
    · split at h
      · rename_i hn; cases h; exact lv_astore hx hb hd hl hn rfl k
      · cases h
    · split at h
      · rename_i hn; cases h; exact lv_astoreN hx hb hd hl hn rfl k
      · cases h
    · cases h
  · unfold am_inc at h
    split at h
    · rename_i e0
      split at h
      · rename_i hn
        cases h
        obtain ⟨q, hq⟩ := List.getElem?_of_mem (am_lookup_mem e0)
        exact lv_iinc hx hb hd hl hq rfl hn rfl k
      · cases h
    · cases h
  · cases h
theorem am_tgt {pc : Nat} {t : Int} (h : 0 ≤ t) : (pc : Int) + (t - pc) = (t.toNat : Int) := by omega
set_option maxHeartbeats 4000000 in
theorem am_br_W (hx : p.tables.exec = Jvm.exec) (hb : c.code = cc) {k0 : Nat} {i : Instr} {S S' : List Value} {P : Prop} {t : Int} (h : am_br i S = some (P, t, S')) (h0 : 0 ≤ t) (hd : decode cc pc = .ok (am_raw pc k0 i, am_ln k0 i))
    (kt : P → W p l e R s m args below meth c H locs cells slots Q (F0 m t.toNat ls S')) (kf : ¬ P → W p l e R s m args below meth c H locs cells slots Q (F0 m (pc + 3) ls S')) : W p l e R s m args below meth c H locs cells slots Q (F0 m pc ls S) := by
  unfold am_br at h
  split at h
  · cases h; exact lv_goto hx hb hd (am_tgt h0) (kt trivial)
  · split at h
    · cases h
      rename_i cd _ _
      cases cd
      · exact lv_if_eq hx hb hd (am_tgt h0) kt kf
      · exact lv_if_ne hx hb hd (am_tgt h0) kt (fun q => kf (fun n => n q))
      · exact lv_if_lt hx hb hd (am_tgt h0) kt kf
      · exact lv_if_ge hx hb hd (am_tgt h0) kt kf
      · exact lv_if_gt hx hb hd (am_tgt h0) kt kf
      · exact lv_if_le hx hb hd (am_tgt h0) kt kf
    · cases h
  · split at h
    · cases h
      rename_i cd _ _ _
      cases cd
      · exact lv_icmp_eq hx hb hd (am_tgt h0) kt kf
      · exact lv_icmp_ne hx hb hd (am_tgt h0) kt (fun q => kf (fun n => n q))
      · exact lv_icmp_lt hx hb hd (am_tgt h0) kt kf
      · exact lv_icmp_ge hx hb hd (am_tgt h0) kt kf
      · exact lv_icmp_gt hx hb hd (am_tgt h0) kt kf
      · exact lv_icmp_le hx hb hd (am_tgt h0) kt kf
    · cases h
  · split at h
    · split at h
      · rename_i cd _ _ _ _ _ hr
        cases h
        obtain ⟨rx, ex⟩ := am_isR_rf hr.1
        obtain ⟨ry, ey⟩ := am_isR_rf hr.2
        subst ex; subst ey
        have inj : va_rf rx = va_rf ry → rx = ry := by cases rx <;> cases ry <;> simp [va_rf]
        cases cd
        · exact lv_acmp_eq hx hb hd (am_tgt h0) (fun q => kt (by rw [q])) (fun q => kf (fun n => q (inj n)))
        · exact lv_acmp_ne hx hb hd (am_tgt h0) (fun q => kt (fun n => q (inj n))) (fun q => kf (fun n => n (by rw [q])))
      · cases h
    · cases h
  · split at h
    · cases h; exact lv_ifnullN hx hb hd (am_tgt h0) (kt trivial)
    · cases h; exact lv_ifnull hx hb hd (kf (fun q => q))
    · cases h
  · split at h
    · cases h; exact lv_ifnonnullN hx hb hd (kf (fun q => q))
    · cases h; exact lv_ifnonnull hx hb hd (am_tgt h0) (kt trivial)
    · cases h
  · cases h
set_option maxHeartbeats 4000000 in
theorem am_sw_W (hx : p.tables.exec = Jvm.exec) (hb : c.code = cc) {k0 : Nat} {i : Instr} {S S' : List Value} {t : Int} (h : am_sw i S = some (t, S')) (h0 : 0 ≤ t) (hd : decode cc pc = .ok (am_raw pc k0 i, am_ln k0 i))
    (kt : W p l e R s m args below meth c H locs cells slots Q (F0 m t.toNat ls S')) : W p l e R s m args below meth c H locs cells slots Q (F0 m pc ls S) := by
  unfold am_sw at h
  split at h
  · split at h
    · split at h
      · rename_i hr; cases h; exact lv_tableOut hx hb hd hr (am_tgt h0) kt
      · rename_i hr
        obtain ⟨o, ho, he⟩ := Option.map_eq_some_iff.mp h
        cases he
        refine lv_tableIn (off := t - pc) hx hb hd (fun q => hr (Or.inl q)) (fun q => hr (Or.inr q)) ?_ (am_tgt h0) kt
        rw [Array.getElem?_map, ho]
        rfl
    · cases h
  · split at h
    · split at h
      · rename_i hr
        cases h
        refine lv_lookup hx hb hd ?_ ?_ (am_tgt h0) kt
        · rw [Array.toList_map]; exact am_srt _ hr
        · rw [Array.toList_map]; exact am_osw _ _ _
      · cases h
    · cases h
  · cases h
end AM2
