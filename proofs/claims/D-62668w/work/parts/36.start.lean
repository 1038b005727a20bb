/-! THE WORLD AT THE LAW'S START -/
set_option maxRecDepth 100000
def am_os (q : String × String × String) : Term := .static q.1 q.2.1 q.2.2
def am_ord (i : Nat) : Int32 := Int32.ofNat (if i < 6 then i else i - 6)
def am_vals : List Nat := [3, 17, 18, 19, 20, 22]
def am_excs : List Nat := [23, 24, 25, 26, 27]
def am_n1 : List Cond := (List.range 24).map (fun i => Cond.exactly (am_os (am_sta.getD i ("", "", ""))) (am_sta.getD i ("", "", "")).1)
def am_n2 : List Cond := (List.range 24).map (fun i => Cond.eq (.field (am_os (am_sta.getD i ("", "", ""))) "java/lang/Enum" "ordinal" "I") (.int (am_ord i)))
def am_n3 : List Cond := (am_vals.map (fun a => (am_vals.filter (fun b => b != a)).map (fun b => Cond.not (.castable (am_cn a) (am_cn b))))).flatten
def am_n4 : List Cond := (am_excs.map (fun a => (am_excs.filter (fun b => b != a)).map (fun b => Cond.not (.castable (am_cn a) (am_cn b))))).flatten
def am_n5 : List Cond := [.isRef (.static Bundle.tN "UNASSIGNED_STACK" Bundle.steD), .isRef (.static Bundle.tN "SUPPRESSED_SENTINEL" Bundle.listD)]
def am_fl0 : List Cond := flatC (Jvm.Cond.and given_1 narrow_1)
theorem am_n1_ok : am_n1.all (fun w => decide (w ∈ am_fl0)) = true := by decide +kernel
theorem am_n2_ok : am_n2.all (fun w => decide (w ∈ am_fl0)) = true := by decide +kernel
theorem am_n3_ok : am_n3.all (fun w => decide (w ∈ am_fl0)) = true := by decide +kernel
theorem am_n4_ok : am_n4.all (fun w => decide (w ∈ am_fl0)) = true := by decide +kernel
theorem am_n5_ok : am_n5.all (fun w => decide (w ∈ am_fl0)) = true := by decide +kernel
/-- words of the tables -/
def am_w1 : List Cond := (List.range 24).map (fun i => Cond.laysStatic (am_sta.getD i ("", "", "")).1 (am_sta.getD i ("", "", "")).2.1 (am_sta.getD i ("", "", "")).2.2)
def am_w2 : List Cond := [.initialized "FunDesk$Sort", .initialized "FunDesk$Op", .initialized Bundle.tN, .laysStatic Bundle.tN "UNASSIGNED_STACK" Bundle.steD, .laysStatic Bundle.tN "SUPPRESSED_SENTINEL" Bundle.listD]
def am_ifc (k ci : Nat) : List Cond := [.declares (am_im k), .interfaceMethod (am_im k).cls (am_im k).cls (am_im k).name (am_im k).desc, .publicMethod ⟨am_cn ci, (am_im k).name, (am_im k).desc⟩, .unhidden (am_cn ci) (am_im k).name (am_im k).desc, .castable (am_cn ci) (am_im k).cls]
def am_w3 : List Cond := ([0, 1, 2].map (fun k => ([5, 6, 7, 8, 9, 10, 14, 15].map (fun ci => am_ifc k ci)).flatten)).flatten
def am_w4 : List Cond := ([3, 4, 5].map (fun k => ([11, 12, 13].map (fun ci => am_ifc k ci)).flatten)).flatten
def am_w5 : List Cond := am_vals.map (fun ci => Cond.castable (am_cn ci) "FunDesk$Value") ++ am_excs.map (fun ci => Cond.castable (am_cn ci) (am_cn ci))
theorem am_w1_ok : am_w1.all (fun w => decide (w ∈ lw_tbl)) = true := by decide +kernel
theorem am_w2_ok : am_w2.all (fun w => decide (w ∈ lw_tbl)) = true := by decide +kernel
theorem am_w3_ok : am_w3.all (fun w => decide (w ∈ lw_tbl)) = true := by decide +kernel
theorem am_w4_ok : am_w4.all (fun w => decide (w ∈ lw_tbl)) = true := by decide +kernel
theorem am_w5_ok : am_w5.all (fun w => decide (w ∈ lw_tbl)) = true := by decide +kernel
theorem am_inAll {l m : List Cond} (h : l.all (fun w => decide (w ∈ m)) = true) {w : Cond} (hw : w ∈ l) : w ∈ m := of_decide_eq_true (List.all_eq_true.mp h w hw)
