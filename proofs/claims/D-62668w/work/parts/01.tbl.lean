-- ===== PART A: goes FIRST, ahead of the names: the tables' words, and 'selects' of the private methods out of them =====
/-- a private method of a class that the tables say can be made, by its rows of tables_1 -/
def lw_okq (q : MethodName × Nat) : Prop := (q.1.cls ≠ "java/lang/invoke/MethodHandle" ∧ q.1.cls ≠ "java/lang/invoke/VarHandle") ∧ Cond.instantiable q.1.cls q.2 ∈ tables_1 ∧ Cond.privateMethod q.1 ∈ tables_1 ∧ Cond.instanceMethod q.1 ∈ tables_1
set_option maxRecDepth 100000
theorem lw_t1 {w : Cond} (h : w ∈ tables_1_1) : w ∈ tables_1 := List.mem_append_left _ h
theorem lw_t2 {w : Cond} (h : w ∈ tables_1_2) : w ∈ tables_1 := List.mem_append_right _ (List.mem_append_left _ h)
theorem lw_t3 {w : Cond} (h : w ∈ tables_1_3) : w ∈ tables_1 := List.mem_append_right _ (List.mem_append_right _ (List.mem_append_left _ h))
theorem lw_t4 {w : Cond} (h : w ∈ tables_1_4) : w ∈ tables_1 := List.mem_append_right _ (List.mem_append_right _ (List.mem_append_right _ (List.mem_append_left _ h)))
theorem lw_t5 {w : Cond} (h : w ∈ tables_1_5) : w ∈ tables_1 := List.mem_append_right _ (List.mem_append_right _ (List.mem_append_right _ (List.mem_append_right _ (List.mem_append_left _ h))))
theorem lw_t6 {w : Cond} (h : w ∈ tables_1_6) : w ∈ tables_1 := List.mem_append_right _ (List.mem_append_right _ (List.mem_append_right _ (List.mem_append_right _ (List.mem_append_right _ (List.mem_append_left _ h)))))
theorem lw_t7 {w : Cond} (h : w ∈ tables_1_7) : w ∈ tables_1 := List.mem_append_right _ (List.mem_append_right _ (List.mem_append_right _ (List.mem_append_right _ (List.mem_append_right _ (List.mem_append_right _ (List.mem_append_left _ h))))))
theorem lw_t8 {w : Cond} (h : w ∈ tables_1_8) : w ∈ tables_1 := List.mem_append_right _ (List.mem_append_right _ (List.mem_append_right _ (List.mem_append_right _ (List.mem_append_right _ (List.mem_append_right _ (List.mem_append_right _ h))))))
theorem lw_p0 : lw_okq (⟨"FunDesk", "fail", "(I)V"⟩, 40) := ⟨⟨by decide +kernel, by decide +kernel⟩, lw_t1 (List.mem_of_getElem? (i := 37) rfl), lw_t2 (List.mem_of_getElem? (i := 31) rfl), lw_t2 (List.mem_of_getElem? (i := 32) rfl)⟩
theorem lw_p1 : lw_okq (⟨"FunDesk", "execute", "()V"⟩, 40) := ⟨⟨by decide +kernel, by decide +kernel⟩, lw_t1 (List.mem_of_getElem? (i := 37) rfl), lw_t2 (List.mem_of_getElem? (i := 35) rfl), lw_t2 (List.mem_of_getElem? (i := 36) rfl)⟩
theorem lw_p2 : lw_okq (⟨"FunDesk", "push", "(LFunDesk$Value;)V"⟩, 40) := ⟨⟨by decide +kernel, by decide +kernel⟩, lw_t1 (List.mem_of_getElem? (i := 37) rfl), lw_t2 (List.mem_of_getElem? (i := 55) rfl), lw_t2 (List.mem_of_getElem? (i := 56) rfl)⟩
theorem lw_p3 : lw_okq (⟨"FunDesk", "pop", "()LFunDesk$Value;"⟩, 40) := ⟨⟨by decide +kernel, by decide +kernel⟩, lw_t1 (List.mem_of_getElem? (i := 37) rfl), lw_t2 (List.mem_of_getElem? (i := 93) rfl), lw_t2 (List.mem_of_getElem? (i := 94) rfl)⟩
theorem lw_p4 : lw_okq (⟨"FunDesk", "call", "(LFunDesk$Value;LFunDesk$Value;)V"⟩, 40) := ⟨⟨by decide +kernel, by decide +kernel⟩, lw_t1 (List.mem_of_getElem? (i := 37) rfl), lw_t2 (List.mem_of_getElem? (i := 97) rfl), lw_t2 (List.mem_of_getElem? (i := 98) rfl)⟩
theorem lw_p5 : lw_okq (⟨"FunDesk", "whole", "(LFunDesk$Value;)I"⟩, 40) := ⟨⟨by decide +kernel, by decide +kernel⟩, lw_t1 (List.mem_of_getElem? (i := 37) rfl), lw_t2 (List.mem_of_getElem? (i := 105) rfl), lw_t2 (List.mem_of_getElem? (i := 106) rfl)⟩
theorem lw_p6 : lw_okq (⟨"FunDesk", "broken", "(LFunDesk$Value;)D"⟩, 40) := ⟨⟨by decide +kernel, by decide +kernel⟩, lw_t1 (List.mem_of_getElem? (i := 37) rfl), lw_t2 (List.mem_of_getElem? (i := 113) rfl), lw_t2 (List.mem_of_getElem? (i := 114) rfl)⟩
theorem lw_p7 : lw_okq (⟨"FunDesk", "work", "(I)V"⟩, 40) := ⟨⟨by decide +kernel, by decide +kernel⟩, lw_t1 (List.mem_of_getElem? (i := 37) rfl), lw_t2 (List.mem_of_getElem? (i := 143) rfl), lw_t2 (List.mem_of_getElem? (i := 144) rfl)⟩
theorem lw_p8 : lw_okq (⟨"FunDesk", "workReal", "(IDD)V"⟩, 40) := ⟨⟨by decide +kernel, by decide +kernel⟩, lw_t1 (List.mem_of_getElem? (i := 37) rfl), lw_t2 (List.mem_of_getElem? (i := 160) rfl), lw_t2 (List.mem_of_getElem? (i := 161) rfl)⟩
theorem lw_p9 : lw_okq (⟨"FunDesk", "workWhole", "(III)V"⟩, 40) := ⟨⟨by decide +kernel, by decide +kernel⟩, lw_t1 (List.mem_of_getElem? (i := 37) rfl), lw_t2 (List.mem_of_getElem? (i := 166) rfl), lw_t2 (List.mem_of_getElem? (i := 167) rfl)⟩
theorem lw_p10 : lw_okq (⟨"FunDesk", "tie", "(LFunDesk$Value;)V"⟩, 40) := ⟨⟨by decide +kernel, by decide +kernel⟩, lw_t1 (List.mem_of_getElem? (i := 37) rfl), lw_t2 (List.mem_of_getElem? (i := 170) rfl), lw_t2 (List.mem_of_getElem? (i := 171) rfl)⟩
theorem lw_p11 : lw_okq (⟨"FunDesk", "test", "(I)V"⟩, 40) := ⟨⟨by decide +kernel, by decide +kernel⟩, lw_t1 (List.mem_of_getElem? (i := 37) rfl), lw_t2 (List.mem_of_getElem? (i := 174) rfl), lw_t2 (List.mem_of_getElem? (i := 175) rfl)⟩
theorem lw_p12 : lw_okq (⟨"FunDesk", "attempt", "()I"⟩, 40) := ⟨⟨by decide +kernel, by decide +kernel⟩, lw_t1 (List.mem_of_getElem? (i := 37) rfl), lw_t2 (List.mem_of_getElem? (i := 232) rfl), lw_t2 (List.mem_of_getElem? (i := 233) rfl)⟩
theorem lw_p13 : lw_okq (⟨"FunDesk", "expr", "()LFunDesk$Expr;"⟩, 40) := ⟨⟨by decide +kernel, by decide +kernel⟩, lw_t1 (List.mem_of_getElem? (i := 37) rfl), lw_t2 (List.mem_of_getElem? (i := 239) rfl), lw_t3 (List.mem_of_getElem? (i := 0) rfl)⟩
theorem lw_p14 : lw_okq (⟨"java/lang/Throwable", "fillInStackTrace", "(I)Ljava/lang/Throwable;"⟩, 6) := ⟨⟨by decide +kernel, by decide +kernel⟩, lw_t3 (List.mem_of_getElem? (i := 45) rfl), lw_t3 (List.mem_of_getElem? (i := 43) rfl), lw_t3 (List.mem_of_getElem? (i := 44) rfl)⟩
theorem lw_p15 : lw_okq (⟨"FunDesk", "peek", "()C"⟩, 40) := ⟨⟨by decide +kernel, by decide +kernel⟩, lw_t1 (List.mem_of_getElem? (i := 37) rfl), lw_t3 (List.mem_of_getElem? (i := 70) rfl), lw_t3 (List.mem_of_getElem? (i := 71) rfl)⟩
def lw_privs_1 : List (MethodName × Nat) := [(⟨"FunDesk", "fail", "(I)V"⟩, 40), (⟨"FunDesk", "execute", "()V"⟩, 40), (⟨"FunDesk", "push", "(LFunDesk$Value;)V"⟩, 40), (⟨"FunDesk", "pop", "()LFunDesk$Value;"⟩, 40), (⟨"FunDesk", "call", "(LFunDesk$Value;LFunDesk$Value;)V"⟩, 40), (⟨"FunDesk", "whole", "(LFunDesk$Value;)I"⟩, 40), (⟨"FunDesk", "broken", "(LFunDesk$Value;)D"⟩, 40), (⟨"FunDesk", "work", "(I)V"⟩, 40), (⟨"FunDesk", "workReal", "(IDD)V"⟩, 40), (⟨"FunDesk", "workWhole", "(III)V"⟩, 40), (⟨"FunDesk", "tie", "(LFunDesk$Value;)V"⟩, 40), (⟨"FunDesk", "test", "(I)V"⟩, 40), (⟨"FunDesk", "attempt", "()I"⟩, 40), (⟨"FunDesk", "expr", "()LFunDesk$Expr;"⟩, 40), (⟨"java/lang/Throwable", "fillInStackTrace", "(I)Ljava/lang/Throwable;"⟩, 6), (⟨"FunDesk", "peek", "()C"⟩, 40)]
theorem lw_r1 : ∀ q ∈ lw_privs_1, lw_okq q := List.forall_mem_cons.mpr ⟨lw_p0, List.forall_mem_cons.mpr ⟨lw_p1, List.forall_mem_cons.mpr ⟨lw_p2, List.forall_mem_cons.mpr ⟨lw_p3, List.forall_mem_cons.mpr ⟨lw_p4, List.forall_mem_cons.mpr ⟨lw_p5, List.forall_mem_cons.mpr ⟨lw_p6, List.forall_mem_cons.mpr ⟨lw_p7, List.forall_mem_cons.mpr ⟨lw_p8, List.forall_mem_cons.mpr ⟨lw_p9, List.forall_mem_cons.mpr ⟨lw_p10, List.forall_mem_cons.mpr ⟨lw_p11, List.forall_mem_cons.mpr ⟨lw_p12, List.forall_mem_cons.mpr ⟨lw_p13, List.forall_mem_cons.mpr ⟨lw_p14, List.forall_mem_cons.mpr ⟨lw_p15, fun _ h => absurd h List.not_mem_nil⟩⟩⟩⟩⟩⟩⟩⟩⟩⟩⟩⟩⟩⟩⟩⟩
theorem lw_p16 : lw_okq (⟨"FunDesk", "here", "()C"⟩, 40) := ⟨⟨by decide +kernel, by decide +kernel⟩, lw_t1 (List.mem_of_getElem? (i := 37) rfl), lw_t3 (List.mem_of_getElem? (i := 74) rfl), lw_t3 (List.mem_of_getElem? (i := 75) rfl)⟩
theorem lw_p17 : lw_okq (⟨"FunDesk", "inner", "(C)LFunDesk$Expr;"⟩, 40) := ⟨⟨by decide +kernel, by decide +kernel⟩, lw_t1 (List.mem_of_getElem? (i := 37) rfl), lw_t3 (List.mem_of_getElem? (i := 78) rfl), lw_t3 (List.mem_of_getElem? (i := 79) rfl)⟩
theorem lw_p18 : lw_okq (⟨"FunDesk", "cons", "()LFunDesk$Expr;"⟩, 40) := ⟨⟨by decide +kernel, by decide +kernel⟩, lw_t1 (List.mem_of_getElem? (i := 37) rfl), lw_t3 (List.mem_of_getElem? (i := 82) rfl), lw_t3 (List.mem_of_getElem? (i := 83) rfl)⟩
theorem lw_p19 : lw_okq (⟨"FunDesk", "compare", "()LFunDesk$Expr;"⟩, 40) := ⟨⟨by decide +kernel, by decide +kernel⟩, lw_t1 (List.mem_of_getElem? (i := 37) rfl), lw_t3 (List.mem_of_getElem? (i := 86) rfl), lw_t3 (List.mem_of_getElem? (i := 87) rfl)⟩
theorem lw_p20 : lw_okq (⟨"FunDesk", "sum", "()LFunDesk$Expr;"⟩, 40) := ⟨⟨by decide +kernel, by decide +kernel⟩, lw_t1 (List.mem_of_getElem? (i := 37) rfl), lw_t3 (List.mem_of_getElem? (i := 90) rfl), lw_t3 (List.mem_of_getElem? (i := 91) rfl)⟩
theorem lw_p21 : lw_okq (⟨"FunDesk", "product", "()LFunDesk$Expr;"⟩, 40) := ⟨⟨by decide +kernel, by decide +kernel⟩, lw_t1 (List.mem_of_getElem? (i := 37) rfl), lw_t3 (List.mem_of_getElem? (i := 94) rfl), lw_t3 (List.mem_of_getElem? (i := 95) rfl)⟩
theorem lw_p22 : lw_okq (⟨"FunDesk", "apply", "()LFunDesk$Expr;"⟩, 40) := ⟨⟨by decide +kernel, by decide +kernel⟩, lw_t1 (List.mem_of_getElem? (i := 37) rfl), lw_t3 (List.mem_of_getElem? (i := 98) rfl), lw_t3 (List.mem_of_getElem? (i := 99) rfl)⟩
theorem lw_p23 : lw_okq (⟨"FunDesk", "atom", "()LFunDesk$Expr;"⟩, 40) := ⟨⟨by decide +kernel, by decide +kernel⟩, lw_t1 (List.mem_of_getElem? (i := 37) rfl), lw_t3 (List.mem_of_getElem? (i := 102) rfl), lw_t3 (List.mem_of_getElem? (i := 103) rfl)⟩
theorem lw_p24 : lw_okq (⟨"FunDesk", "begins", "(C)Z"⟩, 40) := ⟨⟨by decide +kernel, by decide +kernel⟩, lw_t1 (List.mem_of_getElem? (i := 37) rfl), lw_t3 (List.mem_of_getElem? (i := 106) rfl), lw_t3 (List.mem_of_getElem? (i := 107) rfl)⟩
theorem lw_p25 : lw_okq (⟨"FunDesk", "figures", "()LFunDesk$Expr;"⟩, 40) := ⟨⟨by decide +kernel, by decide +kernel⟩, lw_t1 (List.mem_of_getElem? (i := 37) rfl), lw_t3 (List.mem_of_getElem? (i := 116) rfl), lw_t3 (List.mem_of_getElem? (i := 117) rfl)⟩
theorem lw_p26 : lw_okq (⟨"FunDesk", "digits", "(I)I"⟩, 40) := ⟨⟨by decide +kernel, by decide +kernel⟩, lw_t1 (List.mem_of_getElem? (i := 37) rfl), lw_t3 (List.mem_of_getElem? (i := 120) rfl), lw_t3 (List.mem_of_getElem? (i := 121) rfl)⟩
theorem lw_p27 : lw_okq (⟨"FunDesk", "operand", "()LFunDesk$Expr;"⟩, 40) := ⟨⟨by decide +kernel, by decide +kernel⟩, lw_t1 (List.mem_of_getElem? (i := 37) rfl), lw_t3 (List.mem_of_getElem? (i := 152) rfl), lw_t3 (List.mem_of_getElem? (i := 153) rfl)⟩
theorem lw_p28 : lw_okq (⟨"FunDesk", "eat", "(C)Z"⟩, 40) := ⟨⟨by decide +kernel, by decide +kernel⟩, lw_t1 (List.mem_of_getElem? (i := 37) rfl), lw_t3 (List.mem_of_getElem? (i := 173) rfl), lw_t3 (List.mem_of_getElem? (i := 174) rfl)⟩
theorem lw_p29 : lw_okq (⟨"FunDesk", "sign", "(I)I"⟩, 40) := ⟨⟨by decide +kernel, by decide +kernel⟩, lw_t1 (List.mem_of_getElem? (i := 37) rfl), lw_t3 (List.mem_of_getElem? (i := 200) rfl), lw_t3 (List.mem_of_getElem? (i := 201) rfl)⟩
theorem lw_p30 : lw_okq (⟨"FunDesk", "tail", "()LFunDesk$Expr;"⟩, 40) := ⟨⟨by decide +kernel, by decide +kernel⟩, lw_t1 (List.mem_of_getElem? (i := 37) rfl), lw_t3 (List.mem_of_getElem? (i := 204) rfl), lw_t3 (List.mem_of_getElem? (i := 205) rfl)⟩
theorem lw_p31 : lw_okq (⟨"FunDesk", "cases", "()LFunDesk$Expr;"⟩, 40) := ⟨⟨by decide +kernel, by decide +kernel⟩, lw_t1 (List.mem_of_getElem? (i := 37) rfl), lw_t3 (List.mem_of_getElem? (i := 224) rfl), lw_t3 (List.mem_of_getElem? (i := 225) rfl)⟩
def lw_privs_2 : List (MethodName × Nat) := [(⟨"FunDesk", "here", "()C"⟩, 40), (⟨"FunDesk", "inner", "(C)LFunDesk$Expr;"⟩, 40), (⟨"FunDesk", "cons", "()LFunDesk$Expr;"⟩, 40), (⟨"FunDesk", "compare", "()LFunDesk$Expr;"⟩, 40), (⟨"FunDesk", "sum", "()LFunDesk$Expr;"⟩, 40), (⟨"FunDesk", "product", "()LFunDesk$Expr;"⟩, 40), (⟨"FunDesk", "apply", "()LFunDesk$Expr;"⟩, 40), (⟨"FunDesk", "atom", "()LFunDesk$Expr;"⟩, 40), (⟨"FunDesk", "begins", "(C)Z"⟩, 40), (⟨"FunDesk", "figures", "()LFunDesk$Expr;"⟩, 40), (⟨"FunDesk", "digits", "(I)I"⟩, 40), (⟨"FunDesk", "operand", "()LFunDesk$Expr;"⟩, 40), (⟨"FunDesk", "eat", "(C)Z"⟩, 40), (⟨"FunDesk", "sign", "(I)I"⟩, 40), (⟨"FunDesk", "tail", "()LFunDesk$Expr;"⟩, 40), (⟨"FunDesk", "cases", "()LFunDesk$Expr;"⟩, 40)]
theorem lw_r2 : ∀ q ∈ lw_privs_2, lw_okq q := List.forall_mem_cons.mpr ⟨lw_p16, List.forall_mem_cons.mpr ⟨lw_p17, List.forall_mem_cons.mpr ⟨lw_p18, List.forall_mem_cons.mpr ⟨lw_p19, List.forall_mem_cons.mpr ⟨lw_p20, List.forall_mem_cons.mpr ⟨lw_p21, List.forall_mem_cons.mpr ⟨lw_p22, List.forall_mem_cons.mpr ⟨lw_p23, List.forall_mem_cons.mpr ⟨lw_p24, List.forall_mem_cons.mpr ⟨lw_p25, List.forall_mem_cons.mpr ⟨lw_p26, List.forall_mem_cons.mpr ⟨lw_p27, List.forall_mem_cons.mpr ⟨lw_p28, List.forall_mem_cons.mpr ⟨lw_p29, List.forall_mem_cons.mpr ⟨lw_p30, List.forall_mem_cons.mpr ⟨lw_p31, fun _ h => absurd h List.not_mem_nil⟩⟩⟩⟩⟩⟩⟩⟩⟩⟩⟩⟩⟩⟩⟩⟩
theorem lw_p32 : lw_okq (⟨"FunDesk", "pattern", "()LFunDesk$Pattern;"⟩, 40) := ⟨⟨by decide +kernel, by decide +kernel⟩, lw_t1 (List.mem_of_getElem? (i := 37) rfl), lw_t4 (List.mem_of_getElem? (i := 13) rfl), lw_t4 (List.mem_of_getElem? (i := 14) rfl)⟩
theorem lw_p33 : lw_okq (⟨"FunDesk", "part", "()LFunDesk$Pattern;"⟩, 40) := ⟨⟨by decide +kernel, by decide +kernel⟩, lw_t1 (List.mem_of_getElem? (i := 37) rfl), lw_t4 (List.mem_of_getElem? (i := 17) rfl), lw_t4 (List.mem_of_getElem? (i := 18) rfl)⟩
theorem lw_p34 : lw_okq (⟨"FunDesk", "more", "()LFunDesk$Pattern;"⟩, 40) := ⟨⟨by decide +kernel, by decide +kernel⟩, lw_t1 (List.mem_of_getElem? (i := 37) rfl), lw_t4 (List.mem_of_getElem? (i := 46) rfl), lw_t4 (List.mem_of_getElem? (i := 47) rfl)⟩
theorem lw_p35 : lw_okq (⟨"FunDesk", "name", "()C"⟩, 40) := ⟨⟨by decide +kernel, by decide +kernel⟩, lw_t1 (List.mem_of_getElem? (i := 37) rfl), lw_t4 (List.mem_of_getElem? (i := 61) rfl), lw_t4 (List.mem_of_getElem? (i := 62) rfl)⟩
theorem lw_p36 : lw_okq (⟨"FunDesk", "fresh", "()LFunDesk$Type;"⟩, 40) := ⟨⟨by decide +kernel, by decide +kernel⟩, lw_t1 (List.mem_of_getElem? (i := 37) rfl), lw_t5 (List.mem_of_getElem? (i := 0) rfl), lw_t5 (List.mem_of_getElem? (i := 1) rfl)⟩
theorem lw_p37 : lw_okq (⟨"FunDesk", "keep", "(LFunDesk$Type;)LFunDesk$Type;"⟩, 40) := ⟨⟨by decide +kernel, by decide +kernel⟩, lw_t1 (List.mem_of_getElem? (i := 37) rfl), lw_t5 (List.mem_of_getElem? (i := 84) rfl), lw_t5 (List.mem_of_getElem? (i := 85) rfl)⟩
theorem lw_p38 : lw_okq (⟨"FunDesk", "emit", "(LFunDesk$Op;I)I"⟩, 40) := ⟨⟨by decide +kernel, by decide +kernel⟩, lw_t1 (List.mem_of_getElem? (i := 37) rfl), lw_t5 (List.mem_of_getElem? (i := 186) rfl), lw_t5 (List.mem_of_getElem? (i := 187) rfl)⟩
theorem lw_p39 : lw_okq (⟨"FunDesk", "print", "(C)V"⟩, 40) := ⟨⟨by decide +kernel, by decide +kernel⟩, lw_t1 (List.mem_of_getElem? (i := 37) rfl), lw_t6 (List.mem_of_getElem? (i := 20) rfl), lw_t6 (List.mem_of_getElem? (i := 21) rfl)⟩
theorem lw_p40 : lw_okq (⟨"FunDesk", "printVariable", "(LFunDesk$Type;)V"⟩, 40) := ⟨⟨by decide +kernel, by decide +kernel⟩, lw_t1 (List.mem_of_getElem? (i := 37) rfl), lw_t6 (List.mem_of_getElem? (i := 24) rfl), lw_t6 (List.mem_of_getElem? (i := 25) rfl)⟩
theorem lw_p41 : lw_okq (⟨"FunDesk", "known", "()V"⟩, 40) := ⟨⟨by decide +kernel, by decide +kernel⟩, lw_t1 (List.mem_of_getElem? (i := 37) rfl), lw_t6 (List.mem_of_getElem? (i := 37) rfl), lw_t6 (List.mem_of_getElem? (i := 38) rfl)⟩
theorem lw_p42 : lw_okq (⟨"FunDeskModel", "reads", "()Z"⟩, 72) := ⟨⟨by decide +kernel, by decide +kernel⟩, lw_t6 (List.mem_of_getElem? (i := 97) rfl), lw_t7 (List.mem_of_getElem? (i := 99) rfl), lw_t7 (List.mem_of_getElem? (i := 100) rfl)⟩
theorem lw_p43 : lw_okq (⟨"FunDeskModel", "begin", "(I)V"⟩, 72) := ⟨⟨by decide +kernel, by decide +kernel⟩, lw_t6 (List.mem_of_getElem? (i := 97) rfl), lw_t7 (List.mem_of_getElem? (i := 103) rfl), lw_t7 (List.mem_of_getElem? (i := 104) rfl)⟩
theorem lw_p44 : lw_okq (⟨"FunDeskModel", "exprBegins", "(I)V"⟩, 72) := ⟨⟨by decide +kernel, by decide +kernel⟩, lw_t6 (List.mem_of_getElem? (i := 97) rfl), lw_t7 (List.mem_of_getElem? (i := 107) rfl), lw_t7 (List.mem_of_getElem? (i := 108) rfl)⟩
theorem lw_p45 : lw_okq (⟨"FunDeskModel", "deeper", "()V"⟩, 72) := ⟨⟨by decide +kernel, by decide +kernel⟩, lw_t6 (List.mem_of_getElem? (i := 97) rfl), lw_t7 (List.mem_of_getElem? (i := 111) rfl), lw_t7 (List.mem_of_getElem? (i := 112) rfl)⟩
theorem lw_p46 : lw_okq (⟨"FunDeskModel", "peek", "()C"⟩, 72) := ⟨⟨by decide +kernel, by decide +kernel⟩, lw_t6 (List.mem_of_getElem? (i := 97) rfl), lw_t7 (List.mem_of_getElem? (i := 115) rfl), lw_t7 (List.mem_of_getElem? (i := 116) rfl)⟩
theorem lw_p47 : lw_okq (⟨"FunDeskModel", "here", "()C"⟩, 72) := ⟨⟨by decide +kernel, by decide +kernel⟩, lw_t6 (List.mem_of_getElem? (i := 97) rfl), lw_t7 (List.mem_of_getElem? (i := 119) rfl), lw_t7 (List.mem_of_getElem? (i := 120) rfl)⟩
def lw_privs_3 : List (MethodName × Nat) := [(⟨"FunDesk", "pattern", "()LFunDesk$Pattern;"⟩, 40), (⟨"FunDesk", "part", "()LFunDesk$Pattern;"⟩, 40), (⟨"FunDesk", "more", "()LFunDesk$Pattern;"⟩, 40), (⟨"FunDesk", "name", "()C"⟩, 40), (⟨"FunDesk", "fresh", "()LFunDesk$Type;"⟩, 40), (⟨"FunDesk", "keep", "(LFunDesk$Type;)LFunDesk$Type;"⟩, 40), (⟨"FunDesk", "emit", "(LFunDesk$Op;I)I"⟩, 40), (⟨"FunDesk", "print", "(C)V"⟩, 40), (⟨"FunDesk", "printVariable", "(LFunDesk$Type;)V"⟩, 40), (⟨"FunDesk", "known", "()V"⟩, 40), (⟨"FunDeskModel", "reads", "()Z"⟩, 72), (⟨"FunDeskModel", "begin", "(I)V"⟩, 72), (⟨"FunDeskModel", "exprBegins", "(I)V"⟩, 72), (⟨"FunDeskModel", "deeper", "()V"⟩, 72), (⟨"FunDeskModel", "peek", "()C"⟩, 72), (⟨"FunDeskModel", "here", "()C"⟩, 72)]
theorem lw_r3 : ∀ q ∈ lw_privs_3, lw_okq q := List.forall_mem_cons.mpr ⟨lw_p32, List.forall_mem_cons.mpr ⟨lw_p33, List.forall_mem_cons.mpr ⟨lw_p34, List.forall_mem_cons.mpr ⟨lw_p35, List.forall_mem_cons.mpr ⟨lw_p36, List.forall_mem_cons.mpr ⟨lw_p37, List.forall_mem_cons.mpr ⟨lw_p38, List.forall_mem_cons.mpr ⟨lw_p39, List.forall_mem_cons.mpr ⟨lw_p40, List.forall_mem_cons.mpr ⟨lw_p41, List.forall_mem_cons.mpr ⟨lw_p42, List.forall_mem_cons.mpr ⟨lw_p43, List.forall_mem_cons.mpr ⟨lw_p44, List.forall_mem_cons.mpr ⟨lw_p45, List.forall_mem_cons.mpr ⟨lw_p46, List.forall_mem_cons.mpr ⟨lw_p47, fun _ h => absurd h List.not_mem_nil⟩⟩⟩⟩⟩⟩⟩⟩⟩⟩⟩⟩⟩⟩⟩⟩
theorem lw_p48 : lw_okq (⟨"FunDeskModel", "after", "(II)V"⟩, 72) := ⟨⟨by decide +kernel, by decide +kernel⟩, lw_t6 (List.mem_of_getElem? (i := 97) rfl), lw_t7 (List.mem_of_getElem? (i := 123) rfl), lw_t7 (List.mem_of_getElem? (i := 124) rfl)⟩
theorem lw_p49 : lw_okq (⟨"FunDeskModel", "name", "()I"⟩, 72) := ⟨⟨by decide +kernel, by decide +kernel⟩, lw_t6 (List.mem_of_getElem? (i := 97) rfl), lw_t7 (List.mem_of_getElem? (i := 127) rfl), lw_t7 (List.mem_of_getElem? (i := 128) rfl)⟩
theorem lw_p50 : lw_okq (⟨"FunDeskModel", "want", "(C)V"⟩, 72) := ⟨⟨by decide +kernel, by decide +kernel⟩, lw_t6 (List.mem_of_getElem? (i := 97) rfl), lw_t7 (List.mem_of_getElem? (i := 134) rfl), lw_t7 (List.mem_of_getElem? (i := 135) rfl)⟩
theorem lw_p51 : lw_okq (⟨"FunDeskModel", "eat", "(C)Z"⟩, 72) := ⟨⟨by decide +kernel, by decide +kernel⟩, lw_t6 (List.mem_of_getElem? (i := 97) rfl), lw_t7 (List.mem_of_getElem? (i := 138) rfl), lw_t7 (List.mem_of_getElem? (i := 139) rfl)⟩
theorem lw_p52 : lw_okq (⟨"FunDeskModel", "put", "(III)V"⟩, 72) := ⟨⟨by decide +kernel, by decide +kernel⟩, lw_t6 (List.mem_of_getElem? (i := 97) rfl), lw_t7 (List.mem_of_getElem? (i := 142) rfl), lw_t7 (List.mem_of_getElem? (i := 143) rfl)⟩
theorem lw_p53 : lw_okq (⟨"FunDeskModel", "exprGoesOn", "(I)V"⟩, 72) := ⟨⟨by decide +kernel, by decide +kernel⟩, lw_t6 (List.mem_of_getElem? (i := 97) rfl), lw_t7 (List.mem_of_getElem? (i := 146) rfl), lw_t7 (List.mem_of_getElem? (i := 147) rfl)⟩
theorem lw_p54 : lw_okq (⟨"FunDeskModel", "clauseEnds", "(I)V"⟩, 72) := ⟨⟨by decide +kernel, by decide +kernel⟩, lw_t6 (List.mem_of_getElem? (i := 97) rfl), lw_t7 (List.mem_of_getElem? (i := 150) rfl), lw_t7 (List.mem_of_getElem? (i := 151) rfl)⟩
theorem lw_p55 : lw_okq (⟨"FunDeskModel", "clauseBegins", "(I)V"⟩, 72) := ⟨⟨by decide +kernel, by decide +kernel⟩, lw_t6 (List.mem_of_getElem? (i := 97) rfl), lw_t7 (List.mem_of_getElem? (i := 155) rfl), lw_t7 (List.mem_of_getElem? (i := 156) rfl)⟩
theorem lw_p56 : lw_okq (⟨"FunDeskModel", "endsDeep", "()V"⟩, 72) := ⟨⟨by decide +kernel, by decide +kernel⟩, lw_t6 (List.mem_of_getElem? (i := 97) rfl), lw_t7 (List.mem_of_getElem? (i := 159) rfl), lw_t7 (List.mem_of_getElem? (i := 160) rfl)⟩
theorem lw_p57 : lw_okq (⟨"FunDeskModel", "operands", "(I)V"⟩, 72) := ⟨⟨by decide +kernel, by decide +kernel⟩, lw_t6 (List.mem_of_getElem? (i := 97) rfl), lw_t7 (List.mem_of_getElem? (i := 163) rfl), lw_t7 (List.mem_of_getElem? (i := 164) rfl)⟩
theorem lw_p58 : lw_okq (⟨"FunDeskModel", "operator", "(I)I"⟩, 72) := ⟨⟨by decide +kernel, by decide +kernel⟩, lw_t6 (List.mem_of_getElem? (i := 97) rfl), lw_t7 (List.mem_of_getElem? (i := 173) rfl), lw_t7 (List.mem_of_getElem? (i := 174) rfl)⟩
theorem lw_p59 : lw_okq (⟨"FunDeskModel", "atom", "(I)V"⟩, 72) := ⟨⟨by decide +kernel, by decide +kernel⟩, lw_t6 (List.mem_of_getElem? (i := 97) rfl), lw_t7 (List.mem_of_getElem? (i := 177) rfl), lw_t7 (List.mem_of_getElem? (i := 178) rfl)⟩
theorem lw_p60 : lw_okq (⟨"FunDeskModel", "digits", "(I)I"⟩, 72) := ⟨⟨by decide +kernel, by decide +kernel⟩, lw_t6 (List.mem_of_getElem? (i := 97) rfl), lw_t7 (List.mem_of_getElem? (i := 181) rfl), lw_t7 (List.mem_of_getElem? (i := 182) rfl)⟩
theorem lw_p61 : lw_okq (⟨"FunDeskModel", "pattern", "(I)V"⟩, 72) := ⟨⟨by decide +kernel, by decide +kernel⟩, lw_t6 (List.mem_of_getElem? (i := 97) rfl), lw_t7 (List.mem_of_getElem? (i := 185) rfl), lw_t7 (List.mem_of_getElem? (i := 186) rfl)⟩
theorem lw_p62 : lw_okq (⟨"FunDeskModel", "insertSign", "(I)V"⟩, 72) := ⟨⟨by decide +kernel, by decide +kernel⟩, lw_t6 (List.mem_of_getElem? (i := 97) rfl), lw_t7 (List.mem_of_getElem? (i := 189) rfl), lw_t7 (List.mem_of_getElem? (i := 190) rfl)⟩
theorem lw_p63 : lw_okq (⟨"FunDeskModel", "part", "(I)V"⟩, 72) := ⟨⟨by decide +kernel, by decide +kernel⟩, lw_t6 (List.mem_of_getElem? (i := 97) rfl), lw_t7 (List.mem_of_getElem? (i := 193) rfl), lw_t7 (List.mem_of_getElem? (i := 194) rfl)⟩
def lw_privs_4 : List (MethodName × Nat) := [(⟨"FunDeskModel", "after", "(II)V"⟩, 72), (⟨"FunDeskModel", "name", "()I"⟩, 72), (⟨"FunDeskModel", "want", "(C)V"⟩, 72), (⟨"FunDeskModel", "eat", "(C)Z"⟩, 72), (⟨"FunDeskModel", "put", "(III)V"⟩, 72), (⟨"FunDeskModel", "exprGoesOn", "(I)V"⟩, 72), (⟨"FunDeskModel", "clauseEnds", "(I)V"⟩, 72), (⟨"FunDeskModel", "clauseBegins", "(I)V"⟩, 72), (⟨"FunDeskModel", "endsDeep", "()V"⟩, 72), (⟨"FunDeskModel", "operands", "(I)V"⟩, 72), (⟨"FunDeskModel", "operator", "(I)I"⟩, 72), (⟨"FunDeskModel", "atom", "(I)V"⟩, 72), (⟨"FunDeskModel", "digits", "(I)I"⟩, 72), (⟨"FunDeskModel", "pattern", "(I)V"⟩, 72), (⟨"FunDeskModel", "insertSign", "(I)V"⟩, 72), (⟨"FunDeskModel", "part", "(I)V"⟩, 72)]
theorem lw_r4 : ∀ q ∈ lw_privs_4, lw_okq q := List.forall_mem_cons.mpr ⟨lw_p48, List.forall_mem_cons.mpr ⟨lw_p49, List.forall_mem_cons.mpr ⟨lw_p50, List.forall_mem_cons.mpr ⟨lw_p51, List.forall_mem_cons.mpr ⟨lw_p52, List.forall_mem_cons.mpr ⟨lw_p53, List.forall_mem_cons.mpr ⟨lw_p54, List.forall_mem_cons.mpr ⟨lw_p55, List.forall_mem_cons.mpr ⟨lw_p56, List.forall_mem_cons.mpr ⟨lw_p57, List.forall_mem_cons.mpr ⟨lw_p58, List.forall_mem_cons.mpr ⟨lw_p59, List.forall_mem_cons.mpr ⟨lw_p60, List.forall_mem_cons.mpr ⟨lw_p61, List.forall_mem_cons.mpr ⟨lw_p62, List.forall_mem_cons.mpr ⟨lw_p63, fun _ h => absurd h List.not_mem_nil⟩⟩⟩⟩⟩⟩⟩⟩⟩⟩⟩⟩⟩⟩⟩⟩
theorem lw_p64 : lw_okq (⟨"FunDeskModel", "putSign", "(II)V"⟩, 72) := ⟨⟨by decide +kernel, by decide +kernel⟩, lw_t6 (List.mem_of_getElem? (i := 97) rfl), lw_t7 (List.mem_of_getElem? (i := 197) rfl), lw_t7 (List.mem_of_getElem? (i := 198) rfl)⟩
theorem lw_p65 : lw_okq (⟨"FunDeskModel", "namesFound", "()Z"⟩, 72) := ⟨⟨by decide +kernel, by decide +kernel⟩, lw_t6 (List.mem_of_getElem? (i := 97) rfl), lw_t7 (List.mem_of_getElem? (i := 201) rfl), lw_t7 (List.mem_of_getElem? (i := 202) rfl)⟩
theorem lw_p66 : lw_okq (⟨"FunDeskModel", "scope", "(I)V"⟩, 72) := ⟨⟨by decide +kernel, by decide +kernel⟩, lw_t6 (List.mem_of_getElem? (i := 97) rfl), lw_t7 (List.mem_of_getElem? (i := 205) rfl), lw_t7 (List.mem_of_getElem? (i := 206) rfl)⟩
theorem lw_p67 : lw_okq (⟨"FunDeskModel", "bind", "(II)V"⟩, 72) := ⟨⟨by decide +kernel, by decide +kernel⟩, lw_t6 (List.mem_of_getElem? (i := 97) rfl), lw_t7 (List.mem_of_getElem? (i := 209) rfl), lw_t7 (List.mem_of_getElem? (i := 210) rfl)⟩
theorem lw_p68 : lw_okq (⟨"FunDeskModel", "bindPattern", "(I)V"⟩, 72) := ⟨⟨by decide +kernel, by decide +kernel⟩, lw_t6 (List.mem_of_getElem? (i := 97) rfl), lw_t7 (List.mem_of_getElem? (i := 213) rfl), lw_t7 (List.mem_of_getElem? (i := 214) rfl)⟩
theorem lw_p69 : lw_okq (⟨"FunDeskModel", "typesFound", "()Z"⟩, 72) := ⟨⟨by decide +kernel, by decide +kernel⟩, lw_t6 (List.mem_of_getElem? (i := 97) rfl), lw_t7 (List.mem_of_getElem? (i := 217) rfl), lw_t7 (List.mem_of_getElem? (i := 218) rfl)⟩
theorem lw_p70 : lw_okq (⟨"FunDeskModel", "make", "(III)I"⟩, 72) := ⟨⟨by decide +kernel, by decide +kernel⟩, lw_t6 (List.mem_of_getElem? (i := 97) rfl), lw_t7 (List.mem_of_getElem? (i := 221) rfl), lw_t7 (List.mem_of_getElem? (i := 222) rfl)⟩
theorem lw_p71 : lw_okq (⟨"FunDeskModel", "typeOf", "(I)V"⟩, 72) := ⟨⟨by decide +kernel, by decide +kernel⟩, lw_t6 (List.mem_of_getElem? (i := 97) rfl), lw_t7 (List.mem_of_getElem? (i := 225) rfl), lw_t7 (List.mem_of_getElem? (i := 226) rfl)⟩
theorem lw_p72 : lw_okq (⟨"FunDeskModel", "push", "(I)V"⟩, 72) := ⟨⟨by decide +kernel, by decide +kernel⟩, lw_t6 (List.mem_of_getElem? (i := 97) rfl), lw_t7 (List.mem_of_getElem? (i := 229) rfl), lw_t7 (List.mem_of_getElem? (i := 230) rfl)⟩
theorem lw_p73 : lw_okq (⟨"FunDeskModel", "fresh", "()I"⟩, 72) := ⟨⟨by decide +kernel, by decide +kernel⟩, lw_t6 (List.mem_of_getElem? (i := 97) rfl), lw_t7 (List.mem_of_getElem? (i := 233) rfl), lw_t7 (List.mem_of_getElem? (i := 234) rfl)⟩
theorem lw_p74 : lw_okq (⟨"FunDeskModel", "instance", "(I)I"⟩, 72) := ⟨⟨by decide +kernel, by decide +kernel⟩, lw_t6 (List.mem_of_getElem? (i := 97) rfl), lw_t7 (List.mem_of_getElem? (i := 237) rfl), lw_t7 (List.mem_of_getElem? (i := 238) rfl)⟩
theorem lw_p75 : lw_okq (⟨"FunDeskModel", "width", "(I)I"⟩, 72) := ⟨⟨by decide +kernel, by decide +kernel⟩, lw_t6 (List.mem_of_getElem? (i := 97) rfl), lw_t8 (List.mem_of_getElem? (i := 1) rfl), lw_t8 (List.mem_of_getElem? (i := 2) rfl)⟩
theorem lw_p76 : lw_okq (⟨"FunDeskModel", "realType", "(I)I"⟩, 72) := ⟨⟨by decide +kernel, by decide +kernel⟩, lw_t6 (List.mem_of_getElem? (i := 97) rfl), lw_t8 (List.mem_of_getElem? (i := 5) rfl), lw_t8 (List.mem_of_getElem? (i := 6) rfl)⟩
theorem lw_p77 : lw_okq (⟨"FunDeskModel", "copyOf", "(I)I"⟩, 72) := ⟨⟨by decide +kernel, by decide +kernel⟩, lw_t6 (List.mem_of_getElem? (i := 97) rfl), lw_t8 (List.mem_of_getElem? (i := 9) rfl), lw_t8 (List.mem_of_getElem? (i := 10) rfl)⟩
theorem lw_p78 : lw_okq (⟨"FunDeskModel", "pop", "()I"⟩, 72) := ⟨⟨by decide +kernel, by decide +kernel⟩, lw_t6 (List.mem_of_getElem? (i := 97) rfl), lw_t8 (List.mem_of_getElem? (i := 13) rfl), lw_t8 (List.mem_of_getElem? (i := 14) rfl)⟩
theorem lw_p79 : lw_okq (⟨"FunDeskModel", "applied", "()V"⟩, 72) := ⟨⟨by decide +kernel, by decide +kernel⟩, lw_t6 (List.mem_of_getElem? (i := 97) rfl), lw_t8 (List.mem_of_getElem? (i := 17) rfl), lw_t8 (List.mem_of_getElem? (i := 18) rfl)⟩
def lw_privs_5 : List (MethodName × Nat) := [(⟨"FunDeskModel", "putSign", "(II)V"⟩, 72), (⟨"FunDeskModel", "namesFound", "()Z"⟩, 72), (⟨"FunDeskModel", "scope", "(I)V"⟩, 72), (⟨"FunDeskModel", "bind", "(II)V"⟩, 72), (⟨"FunDeskModel", "bindPattern", "(I)V"⟩, 72), (⟨"FunDeskModel", "typesFound", "()Z"⟩, 72), (⟨"FunDeskModel", "make", "(III)I"⟩, 72), (⟨"FunDeskModel", "typeOf", "(I)V"⟩, 72), (⟨"FunDeskModel", "push", "(I)V"⟩, 72), (⟨"FunDeskModel", "fresh", "()I"⟩, 72), (⟨"FunDeskModel", "instance", "(I)I"⟩, 72), (⟨"FunDeskModel", "width", "(I)I"⟩, 72), (⟨"FunDeskModel", "realType", "(I)I"⟩, 72), (⟨"FunDeskModel", "copyOf", "(I)I"⟩, 72), (⟨"FunDeskModel", "pop", "()I"⟩, 72), (⟨"FunDeskModel", "applied", "()V"⟩, 72)]
theorem lw_r5 : ∀ q ∈ lw_privs_5, lw_okq q := List.forall_mem_cons.mpr ⟨lw_p64, List.forall_mem_cons.mpr ⟨lw_p65, List.forall_mem_cons.mpr ⟨lw_p66, List.forall_mem_cons.mpr ⟨lw_p67, List.forall_mem_cons.mpr ⟨lw_p68, List.forall_mem_cons.mpr ⟨lw_p69, List.forall_mem_cons.mpr ⟨lw_p70, List.forall_mem_cons.mpr ⟨lw_p71, List.forall_mem_cons.mpr ⟨lw_p72, List.forall_mem_cons.mpr ⟨lw_p73, List.forall_mem_cons.mpr ⟨lw_p74, List.forall_mem_cons.mpr ⟨lw_p75, List.forall_mem_cons.mpr ⟨lw_p76, List.forall_mem_cons.mpr ⟨lw_p77, List.forall_mem_cons.mpr ⟨lw_p78, List.forall_mem_cons.mpr ⟨lw_p79, fun _ h => absurd h List.not_mem_nil⟩⟩⟩⟩⟩⟩⟩⟩⟩⟩⟩⟩⟩⟩⟩⟩
theorem lw_p80 : lw_okq (⟨"FunDeskModel", "unify", "(II)V"⟩, 72) := ⟨⟨by decide +kernel, by decide +kernel⟩, lw_t6 (List.mem_of_getElem? (i := 97) rfl), lw_t8 (List.mem_of_getElem? (i := 21) rfl), lw_t8 (List.mem_of_getElem? (i := 22) rfl)⟩
theorem lw_p81 : lw_okq (⟨"FunDeskModel", "standsIn", "(II)Z"⟩, 72) := ⟨⟨by decide +kernel, by decide +kernel⟩, lw_t6 (List.mem_of_getElem? (i := 97) rfl), lw_t8 (List.mem_of_getElem? (i := 25) rfl), lw_t8 (List.mem_of_getElem? (i := 26) rfl)⟩
theorem lw_p82 : lw_okq (⟨"FunDeskModel", "operation", "(I)V"⟩, 72) := ⟨⟨by decide +kernel, by decide +kernel⟩, lw_t6 (List.mem_of_getElem? (i := 97) rfl), lw_t8 (List.mem_of_getElem? (i := 29) rfl), lw_t8 (List.mem_of_getElem? (i := 30) rfl)⟩
theorem lw_p83 : lw_okq (⟨"FunDeskModel", "operand", "(I)I"⟩, 72) := ⟨⟨by decide +kernel, by decide +kernel⟩, lw_t6 (List.mem_of_getElem? (i := 97) rfl), lw_t8 (List.mem_of_getElem? (i := 33) rfl), lw_t8 (List.mem_of_getElem? (i := 34) rfl)⟩
theorem lw_p84 : lw_okq (⟨"FunDeskModel", "bindingType", "(II)V"⟩, 72) := ⟨⟨by decide +kernel, by decide +kernel⟩, lw_t6 (List.mem_of_getElem? (i := 97) rfl), lw_t8 (List.mem_of_getElem? (i := 37) rfl), lw_t8 (List.mem_of_getElem? (i := 38) rfl)⟩
theorem lw_p85 : lw_okq (⟨"FunDeskModel", "generalize", "(I)V"⟩, 72) := ⟨⟨by decide +kernel, by decide +kernel⟩, lw_t6 (List.mem_of_getElem? (i := 97) rfl), lw_t8 (List.mem_of_getElem? (i := 41) rfl), lw_t8 (List.mem_of_getElem? (i := 42) rfl)⟩
theorem lw_p86 : lw_okq (⟨"FunDeskModel", "patternTypes", "(II)V"⟩, 72) := ⟨⟨by decide +kernel, by decide +kernel⟩, lw_t6 (List.mem_of_getElem? (i := 97) rfl), lw_t8 (List.mem_of_getElem? (i := 45) rfl), lw_t8 (List.mem_of_getElem? (i := 46) rfl)⟩
theorem lw_p87 : lw_okq (⟨"FunDeskModel", "startProgram", "()V"⟩, 72) := ⟨⟨by decide +kernel, by decide +kernel⟩, lw_t6 (List.mem_of_getElem? (i := 97) rfl), lw_t8 (List.mem_of_getElem? (i := 49) rfl), lw_t8 (List.mem_of_getElem? (i := 50) rfl)⟩
theorem lw_p88 : lw_okq (⟨"FunDeskModel", "show", "(I)V"⟩, 72) := ⟨⟨by decide +kernel, by decide +kernel⟩, lw_t6 (List.mem_of_getElem? (i := 97) rfl), lw_t8 (List.mem_of_getElem? (i := 53) rfl), lw_t8 (List.mem_of_getElem? (i := 54) rfl)⟩
theorem lw_p89 : lw_okq (⟨"FunDeskModel", "stepIsDue", "()Z"⟩, 72) := ⟨⟨by decide +kernel, by decide +kernel⟩, lw_t6 (List.mem_of_getElem? (i := 97) rfl), lw_t8 (List.mem_of_getElem? (i := 65) rfl), lw_t8 (List.mem_of_getElem? (i := 66) rfl)⟩
theorem lw_p90 : lw_okq (⟨"FunDeskModel", "execute", "()V"⟩, 72) := ⟨⟨by decide +kernel, by decide +kernel⟩, lw_t6 (List.mem_of_getElem? (i := 97) rfl), lw_t8 (List.mem_of_getElem? (i := 72) rfl), lw_t8 (List.mem_of_getElem? (i := 73) rfl)⟩
theorem lw_p91 : lw_okq (⟨"FunDeskModel", "known", "(II)V"⟩, 72) := ⟨⟨by decide +kernel, by decide +kernel⟩, lw_t6 (List.mem_of_getElem? (i := 97) rfl), lw_t8 (List.mem_of_getElem? (i := 76) rfl), lw_t8 (List.mem_of_getElem? (i := 77) rfl)⟩
theorem lw_p92 : lw_okq (⟨"FunDeskModel", "fail", "(I)V"⟩, 72) := ⟨⟨by decide +kernel, by decide +kernel⟩, lw_t6 (List.mem_of_getElem? (i := 97) rfl), lw_t8 (List.mem_of_getElem? (i := 80) rfl), lw_t8 (List.mem_of_getElem? (i := 81) rfl)⟩
theorem lw_p93 : lw_okq (⟨"FunDeskModel", "further", "(I)I"⟩, 72) := ⟨⟨by decide +kernel, by decide +kernel⟩, lw_t6 (List.mem_of_getElem? (i := 97) rfl), lw_t8 (List.mem_of_getElem? (i := 85) rfl), lw_t8 (List.mem_of_getElem? (i := 86) rfl)⟩
theorem lw_p94 : lw_okq (⟨"FunDeskModel", "knownValue", "(J)V"⟩, 72) := ⟨⟨by decide +kernel, by decide +kernel⟩, lw_t6 (List.mem_of_getElem? (i := 97) rfl), lw_t8 (List.mem_of_getElem? (i := 89) rfl), lw_t8 (List.mem_of_getElem? (i := 90) rfl)⟩
theorem lw_p95 : lw_okq (⟨"FunDeskModel", "apply", "()V"⟩, 72) := ⟨⟨by decide +kernel, by decide +kernel⟩, lw_t6 (List.mem_of_getElem? (i := 97) rfl), lw_t8 (List.mem_of_getElem? (i := 94) rfl), lw_t8 (List.mem_of_getElem? (i := 95) rfl)⟩
def lw_privs_6 : List (MethodName × Nat) := [(⟨"FunDeskModel", "unify", "(II)V"⟩, 72), (⟨"FunDeskModel", "standsIn", "(II)Z"⟩, 72), (⟨"FunDeskModel", "operation", "(I)V"⟩, 72), (⟨"FunDeskModel", "operand", "(I)I"⟩, 72), (⟨"FunDeskModel", "bindingType", "(II)V"⟩, 72), (⟨"FunDeskModel", "generalize", "(I)V"⟩, 72), (⟨"FunDeskModel", "patternTypes", "(II)V"⟩, 72), (⟨"FunDeskModel", "startProgram", "()V"⟩, 72), (⟨"FunDeskModel", "show", "(I)V"⟩, 72), (⟨"FunDeskModel", "stepIsDue", "()Z"⟩, 72), (⟨"FunDeskModel", "execute", "()V"⟩, 72), (⟨"FunDeskModel", "known", "(II)V"⟩, 72), (⟨"FunDeskModel", "fail", "(I)V"⟩, 72), (⟨"FunDeskModel", "further", "(I)I"⟩, 72), (⟨"FunDeskModel", "knownValue", "(J)V"⟩, 72), (⟨"FunDeskModel", "apply", "()V"⟩, 72)]
theorem lw_r6 : ∀ q ∈ lw_privs_6, lw_okq q := List.forall_mem_cons.mpr ⟨lw_p80, List.forall_mem_cons.mpr ⟨lw_p81, List.forall_mem_cons.mpr ⟨lw_p82, List.forall_mem_cons.mpr ⟨lw_p83, List.forall_mem_cons.mpr ⟨lw_p84, List.forall_mem_cons.mpr ⟨lw_p85, List.forall_mem_cons.mpr ⟨lw_p86, List.forall_mem_cons.mpr ⟨lw_p87, List.forall_mem_cons.mpr ⟨lw_p88, List.forall_mem_cons.mpr ⟨lw_p89, List.forall_mem_cons.mpr ⟨lw_p90, List.forall_mem_cons.mpr ⟨lw_p91, List.forall_mem_cons.mpr ⟨lw_p92, List.forall_mem_cons.mpr ⟨lw_p93, List.forall_mem_cons.mpr ⟨lw_p94, List.forall_mem_cons.mpr ⟨lw_p95, fun _ h => absurd h List.not_mem_nil⟩⟩⟩⟩⟩⟩⟩⟩⟩⟩⟩⟩⟩⟩⟩⟩
theorem lw_p96 : lw_okq (⟨"FunDeskModel", "knownReal", "(D)V"⟩, 72) := ⟨⟨by decide +kernel, by decide +kernel⟩, lw_t6 (List.mem_of_getElem? (i := 97) rfl), lw_t8 (List.mem_of_getElem? (i := 104) rfl), lw_t8 (List.mem_of_getElem? (i := 105) rfl)⟩
theorem lw_p97 : lw_okq (⟨"FunDeskModel", "realOf", "(J)D"⟩, 72) := ⟨⟨by decide +kernel, by decide +kernel⟩, lw_t6 (List.mem_of_getElem? (i := 97) rfl), lw_t8 (List.mem_of_getElem? (i := 108) rfl), lw_t8 (List.mem_of_getElem? (i := 109) rfl)⟩
theorem lw_p98 : lw_okq (⟨"FunDeskModel", "worthIs", "(JI)V"⟩, 72) := ⟨⟨by decide +kernel, by decide +kernel⟩, lw_t6 (List.mem_of_getElem? (i := 97) rfl), lw_t8 (List.mem_of_getElem? (i := 113) rfl), lw_t8 (List.mem_of_getElem? (i := 114) rfl)⟩
theorem lw_p99 : lw_okq (⟨"FunDeskModel", "work", "(I)V"⟩, 72) := ⟨⟨by decide +kernel, by decide +kernel⟩, lw_t6 (List.mem_of_getElem? (i := 97) rfl), lw_t8 (List.mem_of_getElem? (i := 117) rfl), lw_t8 (List.mem_of_getElem? (i := 118) rfl)⟩
theorem lw_p100 : lw_okq (⟨"FunDeskModel", "workReals", "(IDD)V"⟩, 72) := ⟨⟨by decide +kernel, by decide +kernel⟩, lw_t6 (List.mem_of_getElem? (i := 97) rfl), lw_t8 (List.mem_of_getElem? (i := 121) rfl), lw_t8 (List.mem_of_getElem? (i := 122) rfl)⟩
theorem lw_p101 : lw_okq (⟨"FunDeskModel", "workNumbers", "(III)V"⟩, 72) := ⟨⟨by decide +kernel, by decide +kernel⟩, lw_t6 (List.mem_of_getElem? (i := 97) rfl), lw_t8 (List.mem_of_getElem? (i := 127) rfl), lw_t8 (List.mem_of_getElem? (i := 128) rfl)⟩
theorem lw_p102 : lw_okq (⟨"FunDeskModel", "bindTop", "(Z)V"⟩, 72) := ⟨⟨by decide +kernel, by decide +kernel⟩, lw_t6 (List.mem_of_getElem? (i := 97) rfl), lw_t8 (List.mem_of_getElem? (i := 131) rfl), lw_t8 (List.mem_of_getElem? (i := 132) rfl)⟩
theorem lw_p103 : lw_okq (⟨"FunDeskModel", "flow", "(III)V"⟩, 72) := ⟨⟨by decide +kernel, by decide +kernel⟩, lw_t6 (List.mem_of_getElem? (i := 97) rfl), lw_t8 (List.mem_of_getElem? (i := 136) rfl), lw_t8 (List.mem_of_getElem? (i := 137) rfl)⟩
theorem lw_p104 : lw_okq (⟨"FunDeskModel", "fits", "(II)Z"⟩, 72) := ⟨⟨by decide +kernel, by decide +kernel⟩, lw_t6 (List.mem_of_getElem? (i := 97) rfl), lw_t8 (List.mem_of_getElem? (i := 140) rfl), lw_t8 (List.mem_of_getElem? (i := 141) rfl)⟩
theorem lw_p105 : lw_okq (⟨"FunDeskModel", "items", "(J)I"⟩, 72) := ⟨⟨by decide +kernel, by decide +kernel⟩, lw_t6 (List.mem_of_getElem? (i := 97) rfl), lw_t8 (List.mem_of_getElem? (i := 152) rfl), lw_t8 (List.mem_of_getElem? (i := 153) rfl)⟩
def lw_privs_7 : List (MethodName × Nat) := [(⟨"FunDeskModel", "knownReal", "(D)V"⟩, 72), (⟨"FunDeskModel", "realOf", "(J)D"⟩, 72), (⟨"FunDeskModel", "worthIs", "(JI)V"⟩, 72), (⟨"FunDeskModel", "work", "(I)V"⟩, 72), (⟨"FunDeskModel", "workReals", "(IDD)V"⟩, 72), (⟨"FunDeskModel", "workNumbers", "(III)V"⟩, 72), (⟨"FunDeskModel", "bindTop", "(Z)V"⟩, 72), (⟨"FunDeskModel", "flow", "(III)V"⟩, 72), (⟨"FunDeskModel", "fits", "(II)Z"⟩, 72), (⟨"FunDeskModel", "items", "(J)I"⟩, 72)]
theorem lw_r7 : ∀ q ∈ lw_privs_7, lw_okq q := List.forall_mem_cons.mpr ⟨lw_p96, List.forall_mem_cons.mpr ⟨lw_p97, List.forall_mem_cons.mpr ⟨lw_p98, List.forall_mem_cons.mpr ⟨lw_p99, List.forall_mem_cons.mpr ⟨lw_p100, List.forall_mem_cons.mpr ⟨lw_p101, List.forall_mem_cons.mpr ⟨lw_p102, List.forall_mem_cons.mpr ⟨lw_p103, List.forall_mem_cons.mpr ⟨lw_p104, List.forall_mem_cons.mpr ⟨lw_p105, fun _ h => absurd h List.not_mem_nil⟩⟩⟩⟩⟩⟩⟩⟩⟩⟩
def lw_privs : List (MethodName × Nat) := lw_privs_1 ++ (lw_privs_2 ++ (lw_privs_3 ++ (lw_privs_4 ++ (lw_privs_5 ++ (lw_privs_6 ++ (lw_privs_7))))))
def lw_tbl : List Cond := k2_sels lw_privs ++ tables_1
theorem lw_privs_ok : ∀ q ∈ lw_privs, lw_okq q := by
  show ∀ q ∈ lw_privs_1 ++ (lw_privs_2 ++ (lw_privs_3 ++ (lw_privs_4 ++ (lw_privs_5 ++ (lw_privs_6 ++ (lw_privs_7)))))), lw_okq q
  exact List.forall_mem_append.mpr ⟨lw_r1, List.forall_mem_append.mpr ⟨lw_r2, List.forall_mem_append.mpr ⟨lw_r3, List.forall_mem_append.mpr ⟨lw_r4, List.forall_mem_append.mpr ⟨lw_r5, List.forall_mem_append.mpr ⟨lw_r6, lw_r7⟩⟩⟩⟩⟩⟩
-- ===== ONE list of words for every method: the tables' words that hold all through a run =====
def lw_all : List Cond := lw_tbl.filter goodWord
/-- a word of the tables by its place: claim/WORDS.tsv -/
theorem lw_w {w : Cond} (i : Nat) (h : lw_tbl[i]? = some w) (g : goodWord w = true) : w ∈ lw_all := List.mem_filter.mpr ⟨List.mem_of_getElem? h, g⟩
theorem lw_all_tbl {w : Cond} (h : w ∈ lw_all) : w ∈ lw_tbl := (List.mem_filter.mp h).1
theorem lw_self : GoodIn lw_all lw_all := fun w h => ⟨h, good_of_word (List.mem_filter.mp h).2⟩
/-- a class's field words, by their places -/
theorem lw_in (ws : List Cond) (ps : List Nat) (hp : ws = ps.filterMap (fun i => lw_tbl[i]?)) (hg : ws.all goodWord = true) : ∀ w ∈ ws, w ∈ lw_all := by
  intro w h
  have h1 := List.all_eq_true.mp hg w h
  rw [hp] at h
  obtain ⟨i, -, hi⟩ := List.mem_filterMap.mp h
  exact lw_w i hi h1
/-- the words of a contract for the method y with code b, L locals, answer r -/
abbrev ws_ (y : MethodName) (b : ByteArray) (L : Nat) (r : Option FieldType) : List Cond := Cond.code y b L r :: lw_all
theorem lw_meth {y : MethodName} {b : ByteArray} {L : Nat} {r : Option FieldType} (h : Cond.code y b L r ∈ lw_all) : GoodIn lw_all (ws_ y b L r) := by
  intro w hw
  rcases List.mem_cons.mp hw with e | e
  · rw [e]
    exact lw_self _ h
  · exact lw_self _ e
theorem lw_app {a c : List Cond} (ha : ∀ w ∈ a, w ∈ lw_all) (hc : GoodIn lw_all c) : GoodIn lw_all (a ++ c) := by
  intro w hw
  rcases List.mem_append.mp hw with e | e
  · exact lw_self w (ha w e)
  · exact hc w e
/-- what a call through an object asks: cwV n hts (lw_V ..) -/
theorem lw_V {own : String} {idx : Nat} {C : String} {y : MethodName} {b : ByteArray} {L : Nat} {r : Option FieldType} (h1 : Cond.methodLink own idx y ∈ lw_all) (h2 : Cond.instanceMethod y ∈ lw_all) (h3 : Cond.selects C y y ∈ lw_all) (h4 : Cond.initialized C ∈ lw_all) (h5 : Cond.code y b L r ∈ lw_all) : GoodIn lw_all (wsV own idx C y (ws_ y b L r)) := by
  refine lw_app ?_ (lw_meth h5)
  intro w hw
  simp only [List.mem_cons, List.not_mem_nil, or_false] at hw
  rcases hw with e | e | e | e
  · rw [e]; exact h1
  · rw [e]; exact h2
  · rw [e]; exact h3
  · rw [e]; exact h4
/-- what a static call asks: va_cwS n hts (lw_S ..) -/
theorem lw_S {own : String} {idx : Nat} {y : MethodName} {b : ByteArray} {L : Nat} {r : Option FieldType} (h1 : Cond.methodLink own idx y ∈ lw_all) (h2 : Cond.static y ∈ lw_all) (h3 : Cond.initialized y.cls ∈ lw_all) (h4 : Cond.code y b L r ∈ lw_all) : GoodIn lw_all (va_wsS own idx y (ws_ y b L r)) := by
  refine lw_app ?_ (lw_meth h4)
  intro w hw
  simp only [List.mem_cons, List.not_mem_nil, or_false] at hw
  rcases hw with e | e | e
  · rw [e]; exact h1
  · rw [e]; exact h2
  · rw [e]; exact h3
/-- the words of a contract for a method WITH HANDLERS (hh: its table) -/
abbrev wsW_ (y : MethodName) (b : ByteArray) (L : Nat) (r : Option FieldType) (hh : List (Nat × Nat × Nat × Nat)) : List Cond := Cond.codeWith y b L r hh :: lw_all
theorem lw_methW {y : MethodName} {b : ByteArray} {L : Nat} {r : Option FieldType} {hh : List (Nat × Nat × Nat × Nat)} (h : Cond.codeWith y b L r hh ∈ lw_all) : GoodIn lw_all (wsW_ y b L r hh) := by
  intro w hw
  rcases List.mem_cons.mp hw with e | e
  · rw [e]
    exact lw_self _ h
  · exact lw_self _ e
/-- any list of words by their places (lw_in), good -/
theorem lw_good {ws : List Cond} (h : ∀ w ∈ ws, w ∈ lw_all) : GoodIn lw_all ws := fun w hw => lw_self w (h w hw)
/-- what a call of a method with handlers asks: vx_cwVW n hts (lw_VW ..), vx_cwSW n hts (lw_SW ..) -/
theorem lw_VW {own : String} {idx : Nat} {C : String} {y : MethodName} {b : ByteArray} {L : Nat} {r : Option FieldType} {hh : List (Nat × Nat × Nat × Nat)} (h1 : Cond.methodLink own idx y ∈ lw_all) (h2 : Cond.instanceMethod y ∈ lw_all) (h3 : Cond.selects C y y ∈ lw_all) (h4 : Cond.initialized C ∈ lw_all) (h5 : Cond.codeWith y b L r hh ∈ lw_all) : GoodIn lw_all (wsV own idx C y (wsW_ y b L r hh)) := by
  refine lw_app ?_ (lw_methW h5)
  intro w hw
  simp only [List.mem_cons, List.not_mem_nil, or_false] at hw
  rcases hw with e | e | e | e
  · rw [e]; exact h1
  · rw [e]; exact h2
  · rw [e]; exact h3
  · rw [e]; exact h4
theorem lw_SW {own : String} {idx : Nat} {y : MethodName} {b : ByteArray} {L : Nat} {r : Option FieldType} {hh : List (Nat × Nat × Nat × Nat)} (h1 : Cond.methodLink own idx y ∈ lw_all) (h2 : Cond.static y ∈ lw_all) (h3 : Cond.initialized y.cls ∈ lw_all) (h4 : Cond.codeWith y b L r hh ∈ lw_all) : GoodIn lw_all (va_wsS own idx y (wsW_ y b L r hh)) := by
  refine lw_app ?_ (lw_methW h4)
  intro w hw
  simp only [List.mem_cons, List.not_mem_nil, or_false] at hw
  rcases hw with e | e | e
  · rw [e]; exact h1
  · rw [e]; exact h2
  · rw [e]; exact h3
/-- a word by its place in its run of the tables -/
theorem lw_at {r : List Cond} (hr : ∀ w ∈ r, w ∈ lw_tbl) {w : Cond} (i : Nat) (h : r[i]? = some w) : w ∈ lw_tbl := hr w (List.mem_of_getElem? h)
theorem lw_g {w : Cond} (h : w ∈ lw_tbl) (g : goodWord w = true) : w ∈ lw_all := List.mem_filter.mpr ⟨h, g⟩
theorem lw_ms : ∀ w ∈ k2_sels lw_privs, w ∈ lw_tbl := fun w h => show w ∈ k2_sels lw_privs ++ tables_1 from List.mem_append_left _ h
theorem lw_m1 : ∀ w ∈ tables_1_1, w ∈ lw_tbl := fun w h => show w ∈ k2_sels lw_privs ++ tables_1 from List.mem_append_right (k2_sels lw_privs) (show w ∈ tables_1 from List.mem_append_left _ h)
theorem lw_m2 : ∀ w ∈ tables_1_2, w ∈ lw_tbl := fun w h => show w ∈ k2_sels lw_privs ++ tables_1 from List.mem_append_right (k2_sels lw_privs) (show w ∈ tables_1 from List.mem_append_right _ (List.mem_append_left _ h))
theorem lw_m3 : ∀ w ∈ tables_1_3, w ∈ lw_tbl := fun w h => show w ∈ k2_sels lw_privs ++ tables_1 from List.mem_append_right (k2_sels lw_privs) (show w ∈ tables_1 from List.mem_append_right _ (List.mem_append_right _ (List.mem_append_left _ h)))
theorem lw_m4 : ∀ w ∈ tables_1_4, w ∈ lw_tbl := fun w h => show w ∈ k2_sels lw_privs ++ tables_1 from List.mem_append_right (k2_sels lw_privs) (show w ∈ tables_1 from List.mem_append_right _ (List.mem_append_right _ (List.mem_append_right _ (List.mem_append_left _ h))))
theorem lw_m5 : ∀ w ∈ tables_1_5, w ∈ lw_tbl := fun w h => show w ∈ k2_sels lw_privs ++ tables_1 from List.mem_append_right (k2_sels lw_privs) (show w ∈ tables_1 from List.mem_append_right _ (List.mem_append_right _ (List.mem_append_right _ (List.mem_append_right _ (List.mem_append_left _ h)))))
theorem lw_m6 : ∀ w ∈ tables_1_6, w ∈ lw_tbl := fun w h => show w ∈ k2_sels lw_privs ++ tables_1 from List.mem_append_right (k2_sels lw_privs) (show w ∈ tables_1 from List.mem_append_right _ (List.mem_append_right _ (List.mem_append_right _ (List.mem_append_right _ (List.mem_append_right _ (List.mem_append_left _ h))))))
theorem lw_m7 : ∀ w ∈ tables_1_7, w ∈ lw_tbl := fun w h => show w ∈ k2_sels lw_privs ++ tables_1 from List.mem_append_right (k2_sels lw_privs) (show w ∈ tables_1 from List.mem_append_right _ (List.mem_append_right _ (List.mem_append_right _ (List.mem_append_right _ (List.mem_append_right _ (List.mem_append_right _ (List.mem_append_left _ h)))))))
theorem lw_m8 : ∀ w ∈ tables_1_8, w ∈ lw_tbl := fun w h => show w ∈ k2_sels lw_privs ++ tables_1 from List.mem_append_right (k2_sels lw_privs) (show w ∈ tables_1 from List.mem_append_right _ (List.mem_append_right _ (List.mem_append_right _ (List.mem_append_right _ (List.mem_append_right _ (List.mem_append_right _ (List.mem_append_right _ h)))))))
theorem qs0 : (Cond.selects "FunDesk" ⟨"FunDesk", "fail", "(I)V"⟩ ⟨"FunDesk", "fail", "(I)V"⟩) ∈ lw_all := lw_g (lw_at lw_ms 0 rfl) rfl
theorem qs1 : (Cond.selects "FunDesk" ⟨"FunDesk", "execute", "()V"⟩ ⟨"FunDesk", "execute", "()V"⟩) ∈ lw_all := lw_g (lw_at lw_ms 1 rfl) rfl
theorem qs2 : (Cond.selects "FunDesk" ⟨"FunDesk", "push", "(LFunDesk$Value;)V"⟩ ⟨"FunDesk", "push", "(LFunDesk$Value;)V"⟩) ∈ lw_all := lw_g (lw_at lw_ms 2 rfl) rfl
theorem qs3 : (Cond.selects "FunDesk" ⟨"FunDesk", "pop", "()LFunDesk$Value;"⟩ ⟨"FunDesk", "pop", "()LFunDesk$Value;"⟩) ∈ lw_all := lw_g (lw_at lw_ms 3 rfl) rfl
theorem qs4 : (Cond.selects "FunDesk" ⟨"FunDesk", "call", "(LFunDesk$Value;LFunDesk$Value;)V"⟩ ⟨"FunDesk", "call", "(LFunDesk$Value;LFunDesk$Value;)V"⟩) ∈ lw_all := lw_g (lw_at lw_ms 4 rfl) rfl
theorem qs5 : (Cond.selects "FunDesk" ⟨"FunDesk", "whole", "(LFunDesk$Value;)I"⟩ ⟨"FunDesk", "whole", "(LFunDesk$Value;)I"⟩) ∈ lw_all := lw_g (lw_at lw_ms 5 rfl) rfl
theorem qs6 : (Cond.selects "FunDesk" ⟨"FunDesk", "broken", "(LFunDesk$Value;)D"⟩ ⟨"FunDesk", "broken", "(LFunDesk$Value;)D"⟩) ∈ lw_all := lw_g (lw_at lw_ms 6 rfl) rfl
theorem qs7 : (Cond.selects "FunDesk" ⟨"FunDesk", "work", "(I)V"⟩ ⟨"FunDesk", "work", "(I)V"⟩) ∈ lw_all := lw_g (lw_at lw_ms 7 rfl) rfl
theorem qs8 : (Cond.selects "FunDesk" ⟨"FunDesk", "workReal", "(IDD)V"⟩ ⟨"FunDesk", "workReal", "(IDD)V"⟩) ∈ lw_all := lw_g (lw_at lw_ms 8 rfl) rfl
theorem qs9 : (Cond.selects "FunDesk" ⟨"FunDesk", "workWhole", "(III)V"⟩ ⟨"FunDesk", "workWhole", "(III)V"⟩) ∈ lw_all := lw_g (lw_at lw_ms 9 rfl) rfl
theorem qs10 : (Cond.selects "FunDesk" ⟨"FunDesk", "tie", "(LFunDesk$Value;)V"⟩ ⟨"FunDesk", "tie", "(LFunDesk$Value;)V"⟩) ∈ lw_all := lw_g (lw_at lw_ms 10 rfl) rfl
theorem qs11 : (Cond.selects "FunDesk" ⟨"FunDesk", "test", "(I)V"⟩ ⟨"FunDesk", "test", "(I)V"⟩) ∈ lw_all := lw_g (lw_at lw_ms 11 rfl) rfl
theorem qs12 : (Cond.selects "FunDesk" ⟨"FunDesk", "attempt", "()I"⟩ ⟨"FunDesk", "attempt", "()I"⟩) ∈ lw_all := lw_g (lw_at lw_ms 12 rfl) rfl
theorem qs13 : (Cond.selects "FunDesk" ⟨"FunDesk", "expr", "()LFunDesk$Expr;"⟩ ⟨"FunDesk", "expr", "()LFunDesk$Expr;"⟩) ∈ lw_all := lw_g (lw_at lw_ms 13 rfl) rfl
theorem qs14 : (Cond.selects "java/lang/Throwable" ⟨"java/lang/Throwable", "fillInStackTrace", "(I)Ljava/lang/Throwable;"⟩ ⟨"java/lang/Throwable", "fillInStackTrace", "(I)Ljava/lang/Throwable;"⟩) ∈ lw_all := lw_g (lw_at lw_ms 14 rfl) rfl
theorem qs15 : (Cond.selects "FunDesk" ⟨"FunDesk", "peek", "()C"⟩ ⟨"FunDesk", "peek", "()C"⟩) ∈ lw_all := lw_g (lw_at lw_ms 15 rfl) rfl
theorem qs16 : (Cond.selects "FunDesk" ⟨"FunDesk", "here", "()C"⟩ ⟨"FunDesk", "here", "()C"⟩) ∈ lw_all := lw_g (lw_at lw_ms 16 rfl) rfl
theorem qs17 : (Cond.selects "FunDesk" ⟨"FunDesk", "inner", "(C)LFunDesk$Expr;"⟩ ⟨"FunDesk", "inner", "(C)LFunDesk$Expr;"⟩) ∈ lw_all := lw_g (lw_at lw_ms 17 rfl) rfl
theorem qs18 : (Cond.selects "FunDesk" ⟨"FunDesk", "cons", "()LFunDesk$Expr;"⟩ ⟨"FunDesk", "cons", "()LFunDesk$Expr;"⟩) ∈ lw_all := lw_g (lw_at lw_ms 18 rfl) rfl
theorem qs19 : (Cond.selects "FunDesk" ⟨"FunDesk", "compare", "()LFunDesk$Expr;"⟩ ⟨"FunDesk", "compare", "()LFunDesk$Expr;"⟩) ∈ lw_all := lw_g (lw_at lw_ms 19 rfl) rfl
theorem qs20 : (Cond.selects "FunDesk" ⟨"FunDesk", "sum", "()LFunDesk$Expr;"⟩ ⟨"FunDesk", "sum", "()LFunDesk$Expr;"⟩) ∈ lw_all := lw_g (lw_at lw_ms 20 rfl) rfl
theorem qs21 : (Cond.selects "FunDesk" ⟨"FunDesk", "product", "()LFunDesk$Expr;"⟩ ⟨"FunDesk", "product", "()LFunDesk$Expr;"⟩) ∈ lw_all := lw_g (lw_at lw_ms 21 rfl) rfl
theorem qs22 : (Cond.selects "FunDesk" ⟨"FunDesk", "apply", "()LFunDesk$Expr;"⟩ ⟨"FunDesk", "apply", "()LFunDesk$Expr;"⟩) ∈ lw_all := lw_g (lw_at lw_ms 22 rfl) rfl
theorem qs23 : (Cond.selects "FunDesk" ⟨"FunDesk", "atom", "()LFunDesk$Expr;"⟩ ⟨"FunDesk", "atom", "()LFunDesk$Expr;"⟩) ∈ lw_all := lw_g (lw_at lw_ms 23 rfl) rfl
theorem qs24 : (Cond.selects "FunDesk" ⟨"FunDesk", "begins", "(C)Z"⟩ ⟨"FunDesk", "begins", "(C)Z"⟩) ∈ lw_all := lw_g (lw_at lw_ms 24 rfl) rfl
theorem qs25 : (Cond.selects "FunDesk" ⟨"FunDesk", "figures", "()LFunDesk$Expr;"⟩ ⟨"FunDesk", "figures", "()LFunDesk$Expr;"⟩) ∈ lw_all := lw_g (lw_at lw_ms 25 rfl) rfl
theorem qs26 : (Cond.selects "FunDesk" ⟨"FunDesk", "digits", "(I)I"⟩ ⟨"FunDesk", "digits", "(I)I"⟩) ∈ lw_all := lw_g (lw_at lw_ms 26 rfl) rfl
theorem qs27 : (Cond.selects "FunDesk" ⟨"FunDesk", "operand", "()LFunDesk$Expr;"⟩ ⟨"FunDesk", "operand", "()LFunDesk$Expr;"⟩) ∈ lw_all := lw_g (lw_at lw_ms 27 rfl) rfl
theorem qs28 : (Cond.selects "FunDesk" ⟨"FunDesk", "eat", "(C)Z"⟩ ⟨"FunDesk", "eat", "(C)Z"⟩) ∈ lw_all := lw_g (lw_at lw_ms 28 rfl) rfl
theorem qs29 : (Cond.selects "FunDesk" ⟨"FunDesk", "sign", "(I)I"⟩ ⟨"FunDesk", "sign", "(I)I"⟩) ∈ lw_all := lw_g (lw_at lw_ms 29 rfl) rfl
theorem qs30 : (Cond.selects "FunDesk" ⟨"FunDesk", "tail", "()LFunDesk$Expr;"⟩ ⟨"FunDesk", "tail", "()LFunDesk$Expr;"⟩) ∈ lw_all := lw_g (lw_at lw_ms 30 rfl) rfl
theorem qs31 : (Cond.selects "FunDesk" ⟨"FunDesk", "cases", "()LFunDesk$Expr;"⟩ ⟨"FunDesk", "cases", "()LFunDesk$Expr;"⟩) ∈ lw_all := lw_g (lw_at lw_ms 31 rfl) rfl
theorem qs32 : (Cond.selects "FunDesk" ⟨"FunDesk", "pattern", "()LFunDesk$Pattern;"⟩ ⟨"FunDesk", "pattern", "()LFunDesk$Pattern;"⟩) ∈ lw_all := lw_g (lw_at lw_ms 32 rfl) rfl
theorem qs33 : (Cond.selects "FunDesk" ⟨"FunDesk", "part", "()LFunDesk$Pattern;"⟩ ⟨"FunDesk", "part", "()LFunDesk$Pattern;"⟩) ∈ lw_all := lw_g (lw_at lw_ms 33 rfl) rfl
theorem qs34 : (Cond.selects "FunDesk" ⟨"FunDesk", "more", "()LFunDesk$Pattern;"⟩ ⟨"FunDesk", "more", "()LFunDesk$Pattern;"⟩) ∈ lw_all := lw_g (lw_at lw_ms 34 rfl) rfl
theorem qs35 : (Cond.selects "FunDesk" ⟨"FunDesk", "name", "()C"⟩ ⟨"FunDesk", "name", "()C"⟩) ∈ lw_all := lw_g (lw_at lw_ms 35 rfl) rfl
theorem qs36 : (Cond.selects "FunDesk" ⟨"FunDesk", "fresh", "()LFunDesk$Type;"⟩ ⟨"FunDesk", "fresh", "()LFunDesk$Type;"⟩) ∈ lw_all := lw_g (lw_at lw_ms 36 rfl) rfl
theorem qs37 : (Cond.selects "FunDesk" ⟨"FunDesk", "keep", "(LFunDesk$Type;)LFunDesk$Type;"⟩ ⟨"FunDesk", "keep", "(LFunDesk$Type;)LFunDesk$Type;"⟩) ∈ lw_all := lw_g (lw_at lw_ms 37 rfl) rfl
theorem qs38 : (Cond.selects "FunDesk" ⟨"FunDesk", "emit", "(LFunDesk$Op;I)I"⟩ ⟨"FunDesk", "emit", "(LFunDesk$Op;I)I"⟩) ∈ lw_all := lw_g (lw_at lw_ms 38 rfl) rfl
theorem qs39 : (Cond.selects "FunDesk" ⟨"FunDesk", "print", "(C)V"⟩ ⟨"FunDesk", "print", "(C)V"⟩) ∈ lw_all := lw_g (lw_at lw_ms 39 rfl) rfl
theorem qs40 : (Cond.selects "FunDesk" ⟨"FunDesk", "printVariable", "(LFunDesk$Type;)V"⟩ ⟨"FunDesk", "printVariable", "(LFunDesk$Type;)V"⟩) ∈ lw_all := lw_g (lw_at lw_ms 40 rfl) rfl
theorem qs41 : (Cond.selects "FunDesk" ⟨"FunDesk", "known", "()V"⟩ ⟨"FunDesk", "known", "()V"⟩) ∈ lw_all := lw_g (lw_at lw_ms 41 rfl) rfl
theorem qs42 : (Cond.selects "FunDeskModel" ⟨"FunDeskModel", "reads", "()Z"⟩ ⟨"FunDeskModel", "reads", "()Z"⟩) ∈ lw_all := lw_g (lw_at lw_ms 42 rfl) rfl
theorem qs43 : (Cond.selects "FunDeskModel" ⟨"FunDeskModel", "begin", "(I)V"⟩ ⟨"FunDeskModel", "begin", "(I)V"⟩) ∈ lw_all := lw_g (lw_at lw_ms 43 rfl) rfl
theorem qs44 : (Cond.selects "FunDeskModel" ⟨"FunDeskModel", "exprBegins", "(I)V"⟩ ⟨"FunDeskModel", "exprBegins", "(I)V"⟩) ∈ lw_all := lw_g (lw_at lw_ms 44 rfl) rfl
theorem qs45 : (Cond.selects "FunDeskModel" ⟨"FunDeskModel", "deeper", "()V"⟩ ⟨"FunDeskModel", "deeper", "()V"⟩) ∈ lw_all := lw_g (lw_at lw_ms 45 rfl) rfl
theorem qs46 : (Cond.selects "FunDeskModel" ⟨"FunDeskModel", "peek", "()C"⟩ ⟨"FunDeskModel", "peek", "()C"⟩) ∈ lw_all := lw_g (lw_at lw_ms 46 rfl) rfl
theorem qs47 : (Cond.selects "FunDeskModel" ⟨"FunDeskModel", "here", "()C"⟩ ⟨"FunDeskModel", "here", "()C"⟩) ∈ lw_all := lw_g (lw_at lw_ms 47 rfl) rfl
theorem qs48 : (Cond.selects "FunDeskModel" ⟨"FunDeskModel", "after", "(II)V"⟩ ⟨"FunDeskModel", "after", "(II)V"⟩) ∈ lw_all := lw_g (lw_at lw_ms 48 rfl) rfl
theorem qs49 : (Cond.selects "FunDeskModel" ⟨"FunDeskModel", "name", "()I"⟩ ⟨"FunDeskModel", "name", "()I"⟩) ∈ lw_all := lw_g (lw_at lw_ms 49 rfl) rfl
theorem qs50 : (Cond.selects "FunDeskModel" ⟨"FunDeskModel", "want", "(C)V"⟩ ⟨"FunDeskModel", "want", "(C)V"⟩) ∈ lw_all := lw_g (lw_at lw_ms 50 rfl) rfl
theorem qs51 : (Cond.selects "FunDeskModel" ⟨"FunDeskModel", "eat", "(C)Z"⟩ ⟨"FunDeskModel", "eat", "(C)Z"⟩) ∈ lw_all := lw_g (lw_at lw_ms 51 rfl) rfl
theorem qs52 : (Cond.selects "FunDeskModel" ⟨"FunDeskModel", "put", "(III)V"⟩ ⟨"FunDeskModel", "put", "(III)V"⟩) ∈ lw_all := lw_g (lw_at lw_ms 52 rfl) rfl
theorem qs53 : (Cond.selects "FunDeskModel" ⟨"FunDeskModel", "exprGoesOn", "(I)V"⟩ ⟨"FunDeskModel", "exprGoesOn", "(I)V"⟩) ∈ lw_all := lw_g (lw_at lw_ms 53 rfl) rfl
theorem qs54 : (Cond.selects "FunDeskModel" ⟨"FunDeskModel", "clauseEnds", "(I)V"⟩ ⟨"FunDeskModel", "clauseEnds", "(I)V"⟩) ∈ lw_all := lw_g (lw_at lw_ms 54 rfl) rfl
theorem qs55 : (Cond.selects "FunDeskModel" ⟨"FunDeskModel", "clauseBegins", "(I)V"⟩ ⟨"FunDeskModel", "clauseBegins", "(I)V"⟩) ∈ lw_all := lw_g (lw_at lw_ms 55 rfl) rfl
theorem qs56 : (Cond.selects "FunDeskModel" ⟨"FunDeskModel", "endsDeep", "()V"⟩ ⟨"FunDeskModel", "endsDeep", "()V"⟩) ∈ lw_all := lw_g (lw_at lw_ms 56 rfl) rfl
theorem qs57 : (Cond.selects "FunDeskModel" ⟨"FunDeskModel", "operands", "(I)V"⟩ ⟨"FunDeskModel", "operands", "(I)V"⟩) ∈ lw_all := lw_g (lw_at lw_ms 57 rfl) rfl
theorem qs58 : (Cond.selects "FunDeskModel" ⟨"FunDeskModel", "operator", "(I)I"⟩ ⟨"FunDeskModel", "operator", "(I)I"⟩) ∈ lw_all := lw_g (lw_at lw_ms 58 rfl) rfl
theorem qs59 : (Cond.selects "FunDeskModel" ⟨"FunDeskModel", "atom", "(I)V"⟩ ⟨"FunDeskModel", "atom", "(I)V"⟩) ∈ lw_all := lw_g (lw_at lw_ms 59 rfl) rfl
theorem qs60 : (Cond.selects "FunDeskModel" ⟨"FunDeskModel", "digits", "(I)I"⟩ ⟨"FunDeskModel", "digits", "(I)I"⟩) ∈ lw_all := lw_g (lw_at lw_ms 60 rfl) rfl
theorem qs61 : (Cond.selects "FunDeskModel" ⟨"FunDeskModel", "pattern", "(I)V"⟩ ⟨"FunDeskModel", "pattern", "(I)V"⟩) ∈ lw_all := lw_g (lw_at lw_ms 61 rfl) rfl
theorem qs62 : (Cond.selects "FunDeskModel" ⟨"FunDeskModel", "insertSign", "(I)V"⟩ ⟨"FunDeskModel", "insertSign", "(I)V"⟩) ∈ lw_all := lw_g (lw_at lw_ms 62 rfl) rfl
theorem qs63 : (Cond.selects "FunDeskModel" ⟨"FunDeskModel", "part", "(I)V"⟩ ⟨"FunDeskModel", "part", "(I)V"⟩) ∈ lw_all := lw_g (lw_at lw_ms 63 rfl) rfl
theorem qs64 : (Cond.selects "FunDeskModel" ⟨"FunDeskModel", "putSign", "(II)V"⟩ ⟨"FunDeskModel", "putSign", "(II)V"⟩) ∈ lw_all := lw_g (lw_at lw_ms 64 rfl) rfl
theorem qs65 : (Cond.selects "FunDeskModel" ⟨"FunDeskModel", "namesFound", "()Z"⟩ ⟨"FunDeskModel", "namesFound", "()Z"⟩) ∈ lw_all := lw_g (lw_at lw_ms 65 rfl) rfl
theorem qs66 : (Cond.selects "FunDeskModel" ⟨"FunDeskModel", "scope", "(I)V"⟩ ⟨"FunDeskModel", "scope", "(I)V"⟩) ∈ lw_all := lw_g (lw_at lw_ms 66 rfl) rfl
theorem qs67 : (Cond.selects "FunDeskModel" ⟨"FunDeskModel", "bind", "(II)V"⟩ ⟨"FunDeskModel", "bind", "(II)V"⟩) ∈ lw_all := lw_g (lw_at lw_ms 67 rfl) rfl
theorem qs68 : (Cond.selects "FunDeskModel" ⟨"FunDeskModel", "bindPattern", "(I)V"⟩ ⟨"FunDeskModel", "bindPattern", "(I)V"⟩) ∈ lw_all := lw_g (lw_at lw_ms 68 rfl) rfl
theorem qs69 : (Cond.selects "FunDeskModel" ⟨"FunDeskModel", "typesFound", "()Z"⟩ ⟨"FunDeskModel", "typesFound", "()Z"⟩) ∈ lw_all := lw_g (lw_at lw_ms 69 rfl) rfl
theorem qs70 : (Cond.selects "FunDeskModel" ⟨"FunDeskModel", "make", "(III)I"⟩ ⟨"FunDeskModel", "make", "(III)I"⟩) ∈ lw_all := lw_g (lw_at lw_ms 70 rfl) rfl
theorem qs71 : (Cond.selects "FunDeskModel" ⟨"FunDeskModel", "typeOf", "(I)V"⟩ ⟨"FunDeskModel", "typeOf", "(I)V"⟩) ∈ lw_all := lw_g (lw_at lw_ms 71 rfl) rfl
theorem qs72 : (Cond.selects "FunDeskModel" ⟨"FunDeskModel", "push", "(I)V"⟩ ⟨"FunDeskModel", "push", "(I)V"⟩) ∈ lw_all := lw_g (lw_at lw_ms 72 rfl) rfl
theorem qs73 : (Cond.selects "FunDeskModel" ⟨"FunDeskModel", "fresh", "()I"⟩ ⟨"FunDeskModel", "fresh", "()I"⟩) ∈ lw_all := lw_g (lw_at lw_ms 73 rfl) rfl
theorem qs74 : (Cond.selects "FunDeskModel" ⟨"FunDeskModel", "instance", "(I)I"⟩ ⟨"FunDeskModel", "instance", "(I)I"⟩) ∈ lw_all := lw_g (lw_at lw_ms 74 rfl) rfl
theorem qs75 : (Cond.selects "FunDeskModel" ⟨"FunDeskModel", "width", "(I)I"⟩ ⟨"FunDeskModel", "width", "(I)I"⟩) ∈ lw_all := lw_g (lw_at lw_ms 75 rfl) rfl
theorem qs76 : (Cond.selects "FunDeskModel" ⟨"FunDeskModel", "realType", "(I)I"⟩ ⟨"FunDeskModel", "realType", "(I)I"⟩) ∈ lw_all := lw_g (lw_at lw_ms 76 rfl) rfl
theorem qs77 : (Cond.selects "FunDeskModel" ⟨"FunDeskModel", "copyOf", "(I)I"⟩ ⟨"FunDeskModel", "copyOf", "(I)I"⟩) ∈ lw_all := lw_g (lw_at lw_ms 77 rfl) rfl
theorem qs78 : (Cond.selects "FunDeskModel" ⟨"FunDeskModel", "pop", "()I"⟩ ⟨"FunDeskModel", "pop", "()I"⟩) ∈ lw_all := lw_g (lw_at lw_ms 78 rfl) rfl
theorem qs79 : (Cond.selects "FunDeskModel" ⟨"FunDeskModel", "applied", "()V"⟩ ⟨"FunDeskModel", "applied", "()V"⟩) ∈ lw_all := lw_g (lw_at lw_ms 79 rfl) rfl
theorem qs80 : (Cond.selects "FunDeskModel" ⟨"FunDeskModel", "unify", "(II)V"⟩ ⟨"FunDeskModel", "unify", "(II)V"⟩) ∈ lw_all := lw_g (lw_at lw_ms 80 rfl) rfl
theorem qs81 : (Cond.selects "FunDeskModel" ⟨"FunDeskModel", "standsIn", "(II)Z"⟩ ⟨"FunDeskModel", "standsIn", "(II)Z"⟩) ∈ lw_all := lw_g (lw_at lw_ms 81 rfl) rfl
theorem qs82 : (Cond.selects "FunDeskModel" ⟨"FunDeskModel", "operation", "(I)V"⟩ ⟨"FunDeskModel", "operation", "(I)V"⟩) ∈ lw_all := lw_g (lw_at lw_ms 82 rfl) rfl
theorem qs83 : (Cond.selects "FunDeskModel" ⟨"FunDeskModel", "operand", "(I)I"⟩ ⟨"FunDeskModel", "operand", "(I)I"⟩) ∈ lw_all := lw_g (lw_at lw_ms 83 rfl) rfl
theorem qs84 : (Cond.selects "FunDeskModel" ⟨"FunDeskModel", "bindingType", "(II)V"⟩ ⟨"FunDeskModel", "bindingType", "(II)V"⟩) ∈ lw_all := lw_g (lw_at lw_ms 84 rfl) rfl
theorem qs85 : (Cond.selects "FunDeskModel" ⟨"FunDeskModel", "generalize", "(I)V"⟩ ⟨"FunDeskModel", "generalize", "(I)V"⟩) ∈ lw_all := lw_g (lw_at lw_ms 85 rfl) rfl
theorem qs86 : (Cond.selects "FunDeskModel" ⟨"FunDeskModel", "patternTypes", "(II)V"⟩ ⟨"FunDeskModel", "patternTypes", "(II)V"⟩) ∈ lw_all := lw_g (lw_at lw_ms 86 rfl) rfl
theorem qs87 : (Cond.selects "FunDeskModel" ⟨"FunDeskModel", "startProgram", "()V"⟩ ⟨"FunDeskModel", "startProgram", "()V"⟩) ∈ lw_all := lw_g (lw_at lw_ms 87 rfl) rfl
theorem qs88 : (Cond.selects "FunDeskModel" ⟨"FunDeskModel", "show", "(I)V"⟩ ⟨"FunDeskModel", "show", "(I)V"⟩) ∈ lw_all := lw_g (lw_at lw_ms 88 rfl) rfl
theorem qs89 : (Cond.selects "FunDeskModel" ⟨"FunDeskModel", "stepIsDue", "()Z"⟩ ⟨"FunDeskModel", "stepIsDue", "()Z"⟩) ∈ lw_all := lw_g (lw_at lw_ms 89 rfl) rfl
theorem qs90 : (Cond.selects "FunDeskModel" ⟨"FunDeskModel", "execute", "()V"⟩ ⟨"FunDeskModel", "execute", "()V"⟩) ∈ lw_all := lw_g (lw_at lw_ms 90 rfl) rfl
theorem qs91 : (Cond.selects "FunDeskModel" ⟨"FunDeskModel", "known", "(II)V"⟩ ⟨"FunDeskModel", "known", "(II)V"⟩) ∈ lw_all := lw_g (lw_at lw_ms 91 rfl) rfl
theorem qs92 : (Cond.selects "FunDeskModel" ⟨"FunDeskModel", "fail", "(I)V"⟩ ⟨"FunDeskModel", "fail", "(I)V"⟩) ∈ lw_all := lw_g (lw_at lw_ms 92 rfl) rfl
theorem qs93 : (Cond.selects "FunDeskModel" ⟨"FunDeskModel", "further", "(I)I"⟩ ⟨"FunDeskModel", "further", "(I)I"⟩) ∈ lw_all := lw_g (lw_at lw_ms 93 rfl) rfl
theorem qs94 : (Cond.selects "FunDeskModel" ⟨"FunDeskModel", "knownValue", "(J)V"⟩ ⟨"FunDeskModel", "knownValue", "(J)V"⟩) ∈ lw_all := lw_g (lw_at lw_ms 94 rfl) rfl
theorem qs95 : (Cond.selects "FunDeskModel" ⟨"FunDeskModel", "apply", "()V"⟩ ⟨"FunDeskModel", "apply", "()V"⟩) ∈ lw_all := lw_g (lw_at lw_ms 95 rfl) rfl
theorem qs96 : (Cond.selects "FunDeskModel" ⟨"FunDeskModel", "knownReal", "(D)V"⟩ ⟨"FunDeskModel", "knownReal", "(D)V"⟩) ∈ lw_all := lw_g (lw_at lw_ms 96 rfl) rfl
theorem qs97 : (Cond.selects "FunDeskModel" ⟨"FunDeskModel", "realOf", "(J)D"⟩ ⟨"FunDeskModel", "realOf", "(J)D"⟩) ∈ lw_all := lw_g (lw_at lw_ms 97 rfl) rfl
theorem qs98 : (Cond.selects "FunDeskModel" ⟨"FunDeskModel", "worthIs", "(JI)V"⟩ ⟨"FunDeskModel", "worthIs", "(JI)V"⟩) ∈ lw_all := lw_g (lw_at lw_ms 98 rfl) rfl
theorem qs99 : (Cond.selects "FunDeskModel" ⟨"FunDeskModel", "work", "(I)V"⟩ ⟨"FunDeskModel", "work", "(I)V"⟩) ∈ lw_all := lw_g (lw_at lw_ms 99 rfl) rfl
theorem qs100 : (Cond.selects "FunDeskModel" ⟨"FunDeskModel", "workReals", "(IDD)V"⟩ ⟨"FunDeskModel", "workReals", "(IDD)V"⟩) ∈ lw_all := lw_g (lw_at lw_ms 100 rfl) rfl
theorem qs101 : (Cond.selects "FunDeskModel" ⟨"FunDeskModel", "workNumbers", "(III)V"⟩ ⟨"FunDeskModel", "workNumbers", "(III)V"⟩) ∈ lw_all := lw_g (lw_at lw_ms 101 rfl) rfl
theorem qs102 : (Cond.selects "FunDeskModel" ⟨"FunDeskModel", "bindTop", "(Z)V"⟩ ⟨"FunDeskModel", "bindTop", "(Z)V"⟩) ∈ lw_all := lw_g (lw_at lw_ms 102 rfl) rfl
theorem qs103 : (Cond.selects "FunDeskModel" ⟨"FunDeskModel", "flow", "(III)V"⟩ ⟨"FunDeskModel", "flow", "(III)V"⟩) ∈ lw_all := lw_g (lw_at lw_ms 103 rfl) rfl
theorem qs104 : (Cond.selects "FunDeskModel" ⟨"FunDeskModel", "fits", "(II)Z"⟩ ⟨"FunDeskModel", "fits", "(II)Z"⟩) ∈ lw_all := lw_g (lw_at lw_ms 104 rfl) rfl
theorem qs105 : (Cond.selects "FunDeskModel" ⟨"FunDeskModel", "items", "(J)I"⟩ ⟨"FunDeskModel", "items", "(J)I"⟩) ∈ lw_all := lw_g (lw_at lw_ms 105 rfl) rfl
-- ===== end of PART A; then your names; then what follows =====
