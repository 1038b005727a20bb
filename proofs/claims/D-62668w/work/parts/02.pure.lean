/-! THE SMALL MACHINE, 1: instructions that touch the operand stack alone; each is followed by the real machine. am_pure i S: what must hold, and the new stack. -/
set_option maxRecDepth 100000
def am_ii (g : Int32 → Int32 → Prop) (f : Int32 → Int32 → Value) (S : List Value) : Option (Prop × List Value) := match S with
  | .int y :: .int x :: T => some (g x y, f x y :: T)
  | _ => none
def am_ll (f : Int64 → Int64 → Value) (S : List Value) : Option (Prop × List Value) := match S with
  | .long y :: .long x :: T => some (True, f x y :: T)
  | _ => none
def am_dd (g : UInt64 → UInt64 → Prop) (f : UInt64 → UInt64 → Value) (S : List Value) : Option (Prop × List Value) := match S with
  | .double y :: .double x :: T => some (g x y, f x y :: T)
  | _ => none
def am_i1 (f : Int32 → Value) (S : List Value) : Option (Prop × List Value) := match S with
  | .int x :: T => some (True, f x :: T)
  | _ => none
def am_l1 (f : Int64 → Value) (S : List Value) : Option (Prop × List Value) := match S with
  | .long x :: T => some (True, f x :: T)
  | _ => none
def am_d1 (f : UInt64 → Value) (S : List Value) : Option (Prop × List Value) := match S with
  | .double x :: T => some (True, f x :: T)
  | _ => none
theorem am_ii_inv {g : Int32 → Int32 → Prop} {f : Int32 → Int32 → Value} {S S' : List Value} {P : Prop} (h : am_ii g f S = some (P, S')) : ∃ x y T, S = .int y :: .int x :: T ∧ P = g x y ∧ S' = f x y :: T := by
  unfold am_ii at h
  split at h
  · cases h; exact ⟨_, _, _, rfl, rfl, rfl⟩
  · cases h
theorem am_ll_inv {f : Int64 → Int64 → Value} {S S' : List Value} {P : Prop} (h : am_ll f S = some (P, S')) : ∃ x y T, S = .long y :: .long x :: T ∧ P = True ∧ S' = f x y :: T := by
  unfold am_ll at h
  split at h
  · cases h; exact ⟨_, _, _, rfl, rfl, rfl⟩
  · cases h
theorem am_dd_inv {g : UInt64 → UInt64 → Prop} {f : UInt64 → UInt64 → Value} {S S' : List Value} {P : Prop} (h : am_dd g f S = some (P, S')) : ∃ x y T, S = .double y :: .double x :: T ∧ P = g x y ∧ S' = f x y :: T := by
  unfold am_dd at h
  split at h
  · cases h; exact ⟨_, _, _, rfl, rfl, rfl⟩
  · cases h
theorem am_i1_inv {f : Int32 → Value} {S S' : List Value} {P : Prop} (h : am_i1 f S = some (P, S')) : ∃ x T, S = .int x :: T ∧ P = True ∧ S' = f x :: T := by
  unfold am_i1 at h
  split at h
  · cases h; exact ⟨_, _, rfl, rfl, rfl⟩
  · cases h
theorem am_l1_inv {f : Int64 → Value} {S S' : List Value} {P : Prop} (h : am_l1 f S = some (P, S')) : ∃ x T, S = .long x :: T ∧ P = True ∧ S' = f x :: T := by
  unfold am_l1 at h
  split at h
  · cases h; exact ⟨_, _, rfl, rfl, rfl⟩
  · cases h
theorem am_d1_inv {f : UInt64 → Value} {S S' : List Value} {P : Prop} (h : am_d1 f S = some (P, S')) : ∃ x T, S = .double x :: T ∧ P = True ∧ S' = f x :: T := by
  unfold am_d1 at h
  split at h
  · cases h; exact ⟨_, _, rfl, rfl, rfl⟩
  · cases h
def am_pure (i : Instr) (S : List Value) : Option (Prop × List Value) := match i with
  | .iadd => am_ii (fun _ _ => True) (fun x y => .int (x + y)) S
  | .isub => am_ii (fun _ _ => True) (fun x y => .int (x - y)) S
  | .imul => am_ii (fun _ _ => True) (fun x y => .int (x * y)) S
  | .iand => am_ii (fun _ _ => True) (fun x y => .int (x &&& y)) S
  | .ior => am_ii (fun _ _ => True) (fun x y => .int (x ||| y)) S
  | .ishl => am_ii (fun _ _ => True) (fun x y => .int (x <<< (y &&& 31))) S
  | .ishr => am_ii (fun _ _ => True) (fun x y => .int (x >>> (y &&& 31))) S
  | .idiv => am_ii (fun _ y => ¬ y = 0) (fun x y => .int (x / y)) S
  | .irem => am_ii (fun _ y => ¬ y = 0) (fun x y => .int (x - x / y * y)) S
  | .ladd => am_ll (fun x y => .long (x + y)) S
  | .lmul => am_ll (fun x y => .long (x * y)) S
  | .land => am_ll (fun x y => .long (x &&& y)) S
  | .lcmp => am_ll (fun x y => .int (lg_cmp x y)) S
  | .lshr => (match S with
    | .int y :: .long x :: T => some (True, .long (x >>> (y.toInt64 &&& 63)) :: T)
    | _ => none)
  | .dadd => am_dd (fun x y => vf_n64 (FP.dadd x y)) (fun x y => .double (FP.dadd x y)) S
  | .dsub => am_dd (fun x y => vf_n64 (FP.dsub x y)) (fun x y => .double (FP.dsub x y)) S
  | .dmul => am_dd (fun x y => vf_n64 (FP.dmul x y)) (fun x y => .double (FP.dmul x y)) S
  | .ddiv => am_dd (fun x y => vf_n64 (FP.ddiv x y)) (fun x y => .double (FP.ddiv x y)) S
  | .dcmp op => am_dd (fun _ _ => True) (fun x y => .int (Op.cmpValue (FP.dcmp x y) op)) S
  | .ineg => am_i1 (fun x => .int (-x)) S
  | .i2c => am_i1 (fun x => .int (x.toUInt32 % 65536).toInt32) S
  | .i2l => am_i1 (fun x => .long x.toInt64) S
  | .i2d => am_i1 (fun x => .double (FP.i2d x)) S
  | .l2i => am_l1 (fun x => .int x.toInt32) S
  | .dneg => am_d1 (fun x => .double (FP.dneg x)) S
  | .d2i => am_d1 (fun x => .int (FP.d2i x)) S
  | .aconst_null => some (True, .null :: S)
  | .bipush n => some (True, .int (Int8.ofInt n).toInt32 :: S)
  | .sipush n => some (True, .int (Int16.ofInt n).toInt32 :: S)
  | .iconst n => some (True, .int (Int32.ofInt n) :: S)
  | .dconst n => if n = 0 then some (True, .double FP.dconst0 :: S) else none
  | .dup => (match S with
    | a :: T => if a.category = 1 then some (True, a :: a :: T) else none
    | _ => none)
  | .dup_x1 => (match S with
    | a :: b :: T => if a.category = 1 ∧ b.category = 1 then some (True, a :: b :: a :: T) else none
    | _ => none)
  | _ => none
/-- how many bytes an instruction has -/
def am_len (i : Instr) : Nat := match i with
  | .bipush _ | .aload _ | .iload _ | .lload _ | .dload _ | .astore _ | .istore _ | .lstore _ | .dstore _ | .ldc _ | .newarray _ => 2
  | .sipush _ | .ifCond .. | .if_icmp .. | .if_acmp .. | .ifnull _ | .ifnonnull _ | .goto _ | .iinc .. | .getfield _ | .putfield _ | .getstatic _ | .invokevirtual _ | .invokespecial _ | .invokestatic _ | .new _ | .anewarray _ | .checkcast _ | .instanceof _ | .ldc2_w _ => 3
  | .invokeinterface .. => 5
  | _ => 1
section AM1
variable {p : Program} {l : Launch} {e : Env} {R : Room} {s : State} {m : MethodId} {args : Array Value} {below : List Frame} {meth : Method} {c : Code} {H : Heap} {locs : List Loc} {cells slots : Nat} {Q : State → Prop} {cc : ByteArray} {pc : Nat} {ls : Array Slot}
set_option maxHeartbeats 4000000 in
theorem am_pure_W (hx : p.tables.exec = Jvm.exec) (hb : c.code = cc) {i : Instr} {S S' : List Value} {P : Prop} (h : am_pure i S = some (P, S')) (hP : P) (hd : decode cc pc = .ok (i, am_len i))
    (k : W p l e R s m args below meth c H locs cells slots Q (F0 m (pc + am_len i) ls S')) : W p l e R s m args below meth c H locs cells slots Q (F0 m pc ls S) := by
  unfold am_pure at h
  split at h
  · obtain ⟨x, y, T, rfl, rfl, rfl⟩ := am_ii_inv h; exact lv_iadd hx hb hd k
  · obtain ⟨x, y, T, rfl, rfl, rfl⟩ := am_ii_inv h; exact lv_isub hx hb hd k
  · obtain ⟨x, y, T, rfl, rfl, rfl⟩ := am_ii_inv h; exact lv_imul hx hb hd k
  · obtain ⟨x, y, T, rfl, rfl, rfl⟩ := am_ii_inv h; exact lv_iand hx hb hd k
  · obtain ⟨x, y, T, rfl, rfl, rfl⟩ := am_ii_inv h; exact lv_ior hx hb hd k
  · obtain ⟨x, y, T, rfl, rfl, rfl⟩ := am_ii_inv h; exact lv_ishl hx hb hd k
  · obtain ⟨x, y, T, rfl, rfl, rfl⟩ := am_ii_inv h; exact lv_ishr hx hb hd k
  · obtain ⟨x, y, T, rfl, rfl, rfl⟩ := am_ii_inv h; exact lv_idiv hx hb hd hP k
  · obtain ⟨x, y, T, rfl, rfl, rfl⟩ := am_ii_inv h; exact lv_irem hx hb hd hP k
  · obtain ⟨x, y, T, rfl, rfl, rfl⟩ := am_ll_inv h; exact lv_ladd hx hb hd k
  · obtain ⟨x, y, T, rfl, rfl, rfl⟩ := am_ll_inv h; exact lv_lmul hx hb hd k
  · obtain ⟨x, y, T, rfl, rfl, rfl⟩ := am_ll_inv h; exact lv_land hx hb hd k
  · obtain ⟨x, y, T, rfl, rfl, rfl⟩ := am_ll_inv h; exact W.lcmp hx hb hd k
  · split at h
    · cases h; exact lv_lshr hx hb hd rfl k
    · cases h
  · obtain ⟨x, y, T, rfl, rfl, rfl⟩ := am_dd_inv h; exact lv_dadd hx hb hd hP k
  · obtain ⟨x, y, T, rfl, rfl, rfl⟩ := am_dd_inv h; exact lv_dsub hx hb hd hP k
  · obtain ⟨x, y, T, rfl, rfl, rfl⟩ := am_dd_inv h; exact lv_dmul hx hb hd hP k
  · obtain ⟨x, y, T, rfl, rfl, rfl⟩ := am_dd_inv h; exact lv_ddiv hx hb hd hP k
  · obtain ⟨x, y, T, rfl, rfl, rfl⟩ := am_dd_inv h; exact lv_dcmp hx hb hd k
  · obtain ⟨x, T, rfl, rfl, rfl⟩ := am_i1_inv h; exact lv_ineg hx hb hd k
  · obtain ⟨x, T, rfl, rfl, rfl⟩ := am_i1_inv h; exact lv_i2c hx hb hd rfl k
  · obtain ⟨x, T, rfl, rfl, rfl⟩ := am_i1_inv h; exact lv_i2l hx hb hd rfl k
  · obtain ⟨x, T, rfl, rfl, rfl⟩ := am_i1_inv h; exact lv_i2d hx hb hd k
  · obtain ⟨x, T, rfl, rfl, rfl⟩ := am_l1_inv h; exact lv_l2i hx hb hd rfl k
  · obtain ⟨x, T, rfl, rfl, rfl⟩ := am_d1_inv h; exact lv_dneg hx hb hd k
  · obtain ⟨x, T, rfl, rfl, rfl⟩ := am_d1_inv h; exact lv_d2i hx hb hd k
  · cases h; exact lv_null hx hb hd k
  · cases h; exact lv_bipush hx hb hd rfl k
  · cases h; exact lv_sipush hx hb hd rfl k
  · cases h; exact lv_iconst hx hb hd rfl k
  · split at h
    · rename_i e0; subst e0; cases h; exact lv_dconst0 hx hb hd k
    · cases h
  · split at h
    · split at h
      · rename_i hc; cases h; exact lv_dup hx hb hd hc k
      · cases h
    · cases h
  · split at h
    · split at h
      · rename_i hc; cases h; exact lv_dup_x1 hx hb hd hc.1 hc.2 k
      · cases h
    · cases h
  · cases h
end AM1
