/-! THE SMALL MACHINE: code tables 9: place, entry of the constant pool (of a switch: its length), instruction with what it names resolved -/
set_option maxRecDepth 100000
/-- FunDesk$Applied.infer -/
def am_c173 : List (Nat × Nat × Instr) := [(0, 0, .aload_n 0), (1, 7, .getfield 1024), (4, 0, .aload_n 1), (5, 0, .aload_n 2), (6, 22, .invokestatic 52), (9, 0, .astore_n 3), (10, 0, .aload_n 1), (11, 28, .invokevirtual 53), (14, 0, .astore 4), (16, 0, .aload_n 3), (17, 32, .new 2), (20, 0, .dup), (21, 34, .getstatic 5), (24, 0, .aload_n 0), (25, 13, .getfield 1025), (28, 0, .aload_n 1), (29, 0, .aload_n 2), (30, 22, .invokestatic 52), (33, 0, .aload 4), (35, 40, .invokespecial 74), (38, 43, .invokestatic 54), (41, 0, .aload 4), (43, 0, .areturn)]
set_option maxHeartbeats 4000000 in
theorem am_ok173 : am_chk prog_3_method_3_code 8 false am_c173 = true := by decide +kernel
/-- FunDesk$Applied.compile -/
def am_c174 : List (Nat × Nat × Instr) := [(0, 0, .aload_n 0), (1, 7, .getfield 1024), (4, 0, .aload_n 1), (5, 0, .aload_n 2), (6, 47, .invokeinterface 2 3), (11, 0, .aload_n 0), (12, 13, .getfield 1025), (15, 0, .aload_n 1), (16, 0, .aload_n 2), (17, 47, .invokeinterface 2 3), (22, 0, .aload_n 1), (23, 51, .getstatic 14), (26, 0, .iconst 0), (27, 57, .invokevirtual 63), (30, 0, .istore_n 3), (31, 0, .return_)]
set_option maxHeartbeats 4000000 in
theorem am_ok174 : am_chk prog_3_method_4_code 8 false am_c174 = true := by decide +kernel
/-- FunDesk$If.<init> -/
def am_c175 : List (Nat × Nat × Instr) := [(0, 0, .aload_n 0), (1, 1, .invokespecial 220), (4, 0, .aload_n 0), (5, 0, .aload_n 1), (6, 7, .putfield 1152), (9, 0, .aload_n 0), (10, 0, .aload_n 2), (11, 13, .putfield 1153), (14, 0, .aload_n 0), (15, 0, .aload_n 3), (16, 16, .putfield 1154), (19, 0, .return_)]
set_option maxHeartbeats 4000000 in
theorem am_ok175 : am_chk prog_13_method_1_code 9 true am_c175 = true := by decide +kernel
/-- FunDesk$If.look -/
def am_c176 : List (Nat × Nat × Instr) := [(0, 0, .aload_n 0), (1, 7, .getfield 1152), (4, 0, .aload_n 1), (5, 19, .invokeinterface 0 2), (10, 0, .aload_n 0), (11, 13, .getfield 1153), (14, 0, .aload_n 1), (15, 19, .invokeinterface 0 2), (20, 0, .aload_n 0), (21, 16, .getfield 1154), (24, 0, .aload_n 1), (25, 19, .invokeinterface 0 2), (30, 0, .return_)]
set_option maxHeartbeats 4000000 in
theorem am_ok176 : am_chk prog_13_method_2_code 9 false am_c176 = true := by decide +kernel
/-- FunDesk$If.infer -/
def am_c177 : List (Nat × Nat × Instr) := [(0, 0, .aload_n 0), (1, 7, .getfield 1152), (4, 0, .aload_n 1), (5, 0, .aload_n 2), (6, 25, .invokestatic 52), (9, 0, .aload_n 1), (10, 31, .getfield 129), (13, 35, .invokestatic 54), (16, 0, .aload_n 0), (17, 13, .getfield 1153), (20, 0, .aload_n 1), (21, 0, .aload_n 2), (22, 25, .invokestatic 52), (25, 0, .astore_n 3), (26, 0, .aload_n 3), (27, 0, .aload_n 0), (28, 16, .getfield 1154), (31, 0, .aload_n 1), (32, 0, .aload_n 2), (33, 25, .invokestatic 52), (36, 35, .invokestatic 54), (39, 0, .aload_n 3), (40, 0, .areturn)]
set_option maxHeartbeats 4000000 in
theorem am_ok177 : am_chk prog_13_method_3_code 9 false am_c177 = true := by decide +kernel
/-- FunDesk$If.compile -/
def am_c178 : List (Nat × Nat × Instr) := [(0, 0, .aload_n 0), (1, 7, .getfield 1152), (4, 0, .aload_n 1), (5, 0, .aload_n 2), (6, 39, .invokeinterface 2 3), (11, 0, .aload_n 1), (12, 43, .getstatic 19), (15, 0, .iconst 0), (16, 49, .invokevirtual 63), (19, 0, .istore_n 3), (20, 0, .aload_n 0), (21, 13, .getfield 1153), (24, 0, .aload_n 1), (25, 0, .aload_n 2), (26, 39, .invokeinterface 2 3), (31, 0, .aload_n 1), (32, 53, .getstatic 20), (35, 0, .iconst 0), (36, 49, .invokevirtual 63), (39, 0, .istore 4), (41, 0, .aload_n 1), (42, 56, .getfield 145), (45, 0, .iload_n 3), (46, 0, .iload 4), (48, 0, .iconst 1), (49, 0, .iadd), (50, 0, .iastore), (51, 0, .aload_n 0), (52, 16, .getfield 1154), (55, 0, .aload_n 1), (56, 0, .aload_n 2), (57, 39, .invokeinterface 2 3), (62, 0, .aload_n 1), (63, 56, .getfield 145), (66, 0, .iload 4), (68, 0, .aload_n 1), (69, 60, .getfield 147), (72, 0, .iastore), (73, 0, .return_)]
set_option maxHeartbeats 4000000 in
theorem am_ok178 : am_chk prog_13_method_4_code 9 false am_c178 = true := by decide +kernel
/-- FunDesk$Case.<init> -/
def am_c179 : List (Nat × Nat × Instr) := [(0, 0, .aload_n 0), (1, 3, .invokespecial 9999), (4, 0, .aload_n 0), (5, 0, .iconst 5), (6, 9, .anewarray 7), (9, 11, .putfield 1281), (12, 0, .aload_n 0), (13, 0, .iconst 5), (14, 17, .anewarray 10), (17, 19, .putfield 1282), (20, 0, .aload_n 0), (21, 0, .aload_n 1), (22, 23, .putfield 1280), (25, 0, .return_)]
set_option maxHeartbeats 4000000 in
theorem am_ok179 : am_chk prog_7_method_1_code 10 true am_c179 = true := by decide +kernel
/-- FunDesk$Case.look -/
def am_c180 : List (Nat × Nat × Instr) := [(0, 0, .aload_n 0), (1, 23, .getfield 1280), (4, 0, .aload_n 1), (5, 27, .invokeinterface 0 2), (10, 0, .iconst 0), (11, 0, .istore_n 2), (12, 0, .iload_n 2), (13, 0, .aload_n 0), (14, 31, .getfield 1283), (17, 0, .if_icmp .ge 49), (20, 0, .aload_n 0), (21, 19, .getfield 1282), (24, 0, .iload_n 2), (25, 0, .aaload), (26, 0, .aload_n 0), (27, 11, .getfield 1281), (30, 0, .iload_n 2), (31, 0, .aaload), (32, 0, .aload_n 1), (33, 35, .invokeinterface 3 2), (38, 27, .invokeinterface 0 2), (43, 0, .iinc 2 1), (46, 0, .goto 12), (49, 0, .return_)]
set_option maxHeartbeats 4000000 in
theorem am_ok180 : am_chk prog_7_method_2_code 10 false am_c180 = true := by decide +kernel
/-- FunDesk$Case.infer -/
def am_c181 : List (Nat × Nat × Instr) := [(0, 0, .aload_n 0), (1, 23, .getfield 1280), (4, 0, .aload_n 1), (5, 0, .aload_n 2), (6, 39, .invokestatic 52), (9, 0, .astore_n 3), (10, 0, .aload_n 1), (11, 43, .invokevirtual 53), (14, 0, .astore 4), (16, 0, .iconst 0), (17, 0, .istore 5), (19, 0, .iload 5), (21, 0, .aload_n 0), (22, 31, .getfield 1283), (25, 0, .if_icmp .ge 74), (28, 0, .aload_n 1), (29, 0, .aload_n 2), (30, 47, .putfield 148), (33, 0, .aload_n 3), (34, 0, .aload_n 0), (35, 11, .getfield 1281), (38, 0, .iload 5), (40, 0, .aaload), (41, 0, .aload_n 1), (42, 51, .invokestatic 58), (45, 55, .invokestatic 54), (48, 0, .aload 4), (50, 0, .aload_n 0), (51, 19, .getfield 1282), (54, 0, .iload 5), (56, 0, .aaload), (57, 0, .aload_n 1), (58, 0, .aload_n 1), (59, 47, .getfield 148), (62, 39, .invokestatic 52), (65, 55, .invokestatic 54), (68, 0, .iinc 5 1), (71, 0, .goto 19), (74, 0, .aload 4), (76, 0, .areturn)]
set_option maxHeartbeats 4000000 in
theorem am_ok181 : am_chk prog_7_method_3_code 10 false am_c181 = true := by decide +kernel
/-- FunDesk$Case.compile -/
def am_c182 : List (Nat × Nat × Instr) := [(0, 0, .aload_n 0), (1, 23, .getfield 1280), (4, 0, .aload_n 1), (5, 0, .aload_n 2), (6, 59, .invokeinterface 2 3), (11, 0, .aload_n 1), (12, 63, .getstatic 21), (15, 0, .iconst 0), (16, 69, .invokevirtual 63), (19, 0, .istore_n 3), (20, 0, .iconst 5), (21, 0, .newarray .int), (23, 0, .astore 4), (25, 0, .iconst 0), (26, 0, .istore 5), (28, 0, .iload 5), (30, 0, .aload_n 0), (31, 31, .getfield 1283), (34, 0, .if_icmp .ge 157), (37, 0, .aload_n 1), (38, 73, .getstatic 22), (41, 0, .iconst 0), (42, 69, .invokevirtual 63), (45, 0, .istore 6), (47, 0, .aload_n 1), (48, 76, .getfield 146), (51, 0, .iload 6), (53, 0, .aload_n 0), (54, 11, .getfield 1281), (57, 0, .iload 5), (59, 0, .aaload), (60, 0, .aastore), (61, 0, .aload_n 0), (62, 11, .getfield 1281), (65, 0, .iload 5), (67, 0, .aaload), (68, 0, .aload_n 2), (69, 35, .invokeinterface 3 2), (74, 0, .astore 7), (76, 0, .aload_n 0), (77, 19, .getfield 1282), (80, 0, .iload 5), (82, 0, .aaload), (83, 0, .aload_n 1), (84, 0, .aload 7), (86, 59, .invokeinterface 2 3), (91, 0, .iconst 0), (92, 0, .istore 8), (94, 0, .aload 7), (96, 0, .astore 9), (98, 0, .aload 9), (100, 0, .aload_n 2), (101, 0, .if_acmp .eq 117), (104, 0, .iinc 8 1), (107, 0, .aload 9), (109, 79, .invokevirtual 205), (112, 0, .astore 9), (114, 0, .goto 98), (117, 0, .aload_n 1), (118, 85, .getstatic 18), (121, 0, .iload 8), (123, 69, .invokevirtual 63), (126, 0, .istore_n 3), (127, 0, .aload 4), (129, 0, .iload 5), (131, 0, .aload_n 1), (132, 88, .getstatic 20), (135, 0, .iconst 0), (136, 69, .invokevirtual 63), (139, 0, .iastore), (140, 0, .aload_n 1), (141, 91, .getfield 145), (144, 0, .iload 6), (146, 0, .aload_n 1), (147, 95, .getfield 147), (150, 0, .iastore), (151, 0, .iinc 5 1), (154, 0, .goto 28), (157, 0, .aload_n 1), (158, 98, .getstatic 23), (161, 0, .iconst 0), (162, 69, .invokevirtual 63), (165, 0, .istore_n 3), (166, 0, .iconst 0), (167, 0, .istore 5), (169, 0, .iload 5), (171, 0, .aload_n 0), (172, 31, .getfield 1283), (175, 0, .if_icmp .ge 198), (178, 0, .aload_n 1), (179, 91, .getfield 145), (182, 0, .aload 4), (184, 0, .iload 5), (186, 0, .iaload), (187, 0, .aload_n 1), (188, 95, .getfield 147), (191, 0, .iastore), (192, 0, .iinc 5 1), (195, 0, .goto 169), (198, 0, .return_)]
set_option maxHeartbeats 4000000 in
theorem am_ok182 : am_chk prog_7_method_4_code 10 false am_c182 = true := by decide +kernel
/-- FunDesk$Same.fits -/
def am_c183 : List (Nat × Nat × Instr) := [(0, 0, .aload_n 0), (1, 7, .getfield 1408), (4, 35, .getstatic 4), (7, 0, .if_acmp .ne 15), (10, 0, .aload_n 2), (11, 45, .instanceof 3), (14, 0, .ireturn), (15, 0, .aload_n 2), (16, 47, .instanceof 17), (19, 0, .ifCond .eq 40), (22, 0, .aload_n 2), (23, 47, .checkcast 17), (26, 49, .invokevirtual 208), (29, 0, .aload_n 0), (30, 13, .getfield 1409), (33, 0, .if_icmp .ne 40), (36, 0, .iconst 1), (37, 0, .goto 41), (40, 0, .iconst 0), (41, 0, .ireturn)]
set_option maxHeartbeats 4000000 in
theorem am_ok183 : am_chk prog_21_method_4_code 11 false am_c183 = true := by decide +kernel
/-- FunDesk$Same.<init> -/
def am_c184 : List (Nat × Nat × Instr) := [(0, 0, .aload_n 0), (1, 1, .invokespecial 220), (4, 0, .aload_n 0), (5, 0, .aload_n 1), (6, 7, .putfield 1408), (9, 0, .aload_n 0), (10, 0, .iload_n 2), (11, 13, .putfield 1409), (14, 0, .return_)]
set_option maxHeartbeats 4000000 in
theorem am_ok184 : am_chk prog_21_method_1_code 11 true am_c184 = true := by decide +kernel
/-- FunDesk$Same.names -/
def am_c185 : List (Nat × Nat × Instr) := [(0, 0, .aload_n 1), (1, 0, .areturn)]
set_option maxHeartbeats 4000000 in
theorem am_ok185 : am_chk prog_21_method_2_code 11 false am_c185 = true := by decide +kernel
/-- FunDesk$Same.infer -/
def am_c186 : List (Nat × Nat × Instr) := [(0, 0, .aload_n 0), (1, 7, .getfield 1408), (4, 17, .getstatic 1), (7, 0, .if_acmp .ne 17), (10, 0, .aload_n 1), (11, 22, .getfield 128), (14, 0, .goto 49), (17, 0, .aload_n 0), (18, 7, .getfield 1408), (21, 27, .getstatic 2), (24, 0, .if_acmp .ne 34), (27, 0, .aload_n 1), (28, 30, .getfield 129), (31, 0, .goto 49), (34, 33, .new 2), (37, 0, .dup), (38, 35, .getstatic 4), (41, 0, .aload_n 1), (42, 38, .invokevirtual 53), (45, 0, .aconst_null), (46, 42, .invokespecial 74), (49, 0, .areturn)]
set_option maxHeartbeats 4000000 in
theorem am_ok186 : am_chk prog_21_method_3_code 11 false am_c186 = true := by decide +kernel
/-- FunDesk$Any.fits -/
def am_c187 : List (Nat × Nat × Instr) := [(0, 0, .aload_n 0), (1, 7, .getfield 1536), (4, 0, .ifCond .eq 23), (7, 0, .aload_n 1), (8, 28, .new 21), (11, 0, .dup), (12, 0, .aload_n 2), (13, 0, .aload_n 1), (14, 30, .getfield 153), (17, 34, .invokespecial 216), (20, 30, .putfield 153), (23, 0, .iconst 1), (24, 0, .ireturn)]
set_option maxHeartbeats 4000000 in
theorem am_ok187 : am_chk prog_2_method_4_code 12 false am_c187 = true := by decide +kernel
/-- FunDesk$Any.<init> -/
def am_c188 : List (Nat × Nat × Instr) := [(0, 0, .aload_n 0), (1, 1, .invokespecial 220), (4, 0, .aload_n 0), (5, 0, .iload_n 1), (6, 7, .putfield 1536), (9, 0, .return_)]
set_option maxHeartbeats 4000000 in
theorem am_ok188 : am_chk prog_2_method_1_code 12 true am_c188 = true := by decide +kernel
/-- FunDesk$Any.names -/
def am_c189 : List (Nat × Nat × Instr) := [(0, 0, .aload_n 0), (1, 7, .getfield 1536), (4, 0, .ifCond .ne 11), (7, 0, .aload_n 1), (8, 0, .goto 24), (11, 13, .new 16), (14, 0, .dup), (15, 0, .aload_n 0), (16, 7, .getfield 1536), (19, 0, .aconst_null), (20, 0, .aload_n 1), (21, 15, .invokespecial 203), (24, 0, .areturn)]
set_option maxHeartbeats 4000000 in
theorem am_ok189 : am_chk prog_2_method_2_code 12 false am_c189 = true := by decide +kernel
/-- FunDesk$Any.infer -/
def am_c190 : List (Nat × Nat × Instr) := [(0, 0, .aload_n 1), (1, 18, .invokevirtual 53), (4, 0, .astore_n 2), (5, 0, .aload_n 0), (6, 7, .getfield 1536), (9, 0, .ifCond .eq 32), (12, 0, .aload_n 1), (13, 13, .new 16), (16, 0, .dup), (17, 0, .aload_n 0), (18, 7, .getfield 1536), (21, 0, .aload_n 2), (22, 0, .aload_n 1), (23, 24, .getfield 148), (26, 15, .invokespecial 203), (29, 24, .putfield 148), (32, 0, .aload_n 2), (33, 0, .areturn)]
set_option maxHeartbeats 4000000 in
theorem am_ok190 : am_chk prog_2_method_3_code 12 false am_c190 = true := by decide +kernel
/-- FunDesk$Both.fits -/
def am_c191 : List (Nat × Nat × Instr) := [(0, 0, .aload_n 2), (1, 43, .instanceof 22), (4, 0, .ifCond .ne 9), (7, 0, .iconst 0), (8, 0, .ireturn), (9, 0, .aload_n 2), (10, 43, .checkcast 22), (13, 0, .astore_n 3), (14, 0, .aload_n 0), (15, 7, .getfield 1664), (18, 0, .aload_n 1), (19, 0, .aload_n 3), (20, 45, .invokevirtual 218), (23, 48, .invokeinterface 5 3), (28, 0, .ifCond .eq 52), (31, 0, .aload_n 0), (32, 13, .getfield 1665), (35, 0, .aload_n 1), (36, 0, .aload_n 3), (37, 52, .invokevirtual 219), (40, 48, .invokeinterface 5 3), (45, 0, .ifCond .eq 52), (48, 0, .iconst 1), (49, 0, .goto 53), (52, 0, .iconst 0), (53, 0, .ireturn)]
set_option maxHeartbeats 4000000 in
theorem am_ok191 : am_chk prog_4_method_4_code 13 false am_c191 = true := by decide +kernel
/-- FunDesk$Both.<init> -/
def am_c192 : List (Nat × Nat × Instr) := [(0, 0, .aload_n 0), (1, 1, .invokespecial 220), (4, 0, .aload_n 0), (5, 0, .aload_n 1), (6, 7, .putfield 1664), (9, 0, .aload_n 0), (10, 0, .aload_n 2), (11, 13, .putfield 1665), (14, 0, .return_)]
set_option maxHeartbeats 4000000 in
theorem am_ok192 : am_chk prog_4_method_1_code 13 true am_c192 = true := by decide +kernel
/-- FunDesk$Both.names -/
def am_c193 : List (Nat × Nat × Instr) := [(0, 0, .aload_n 0), (1, 13, .getfield 1665), (4, 0, .aload_n 0), (5, 7, .getfield 1664), (8, 0, .aload_n 1), (9, 16, .invokeinterface 3 2), (14, 16, .invokeinterface 3 2), (19, 0, .areturn)]
set_option maxHeartbeats 4000000 in
theorem am_ok193 : am_chk prog_4_method_2_code 13 false am_c193 = true := by decide +kernel
/-- FunDesk$Both.infer -/
def am_c194 : List (Nat × Nat × Instr) := [(0, 22, .new 2), (3, 0, .dup), (4, 24, .getstatic 4), (7, 0, .aload_n 0), (8, 7, .getfield 1664), (11, 0, .aload_n 1), (12, 30, .invokestatic 58), (15, 0, .aconst_null), (16, 36, .invokespecial 74), (19, 0, .astore_n 2), (20, 0, .aload_n 2), (21, 0, .aload_n 0), (22, 13, .getfield 1665), (25, 0, .aload_n 1), (26, 30, .invokestatic 58), (29, 39, .invokestatic 54), (32, 0, .aload_n 2), (33, 0, .areturn)]
set_option maxHeartbeats 4000000 in
theorem am_ok194 : am_chk prog_4_method_3_code 13 false am_c194 = true := by decide +kernel
/-- FunDesk$Function.<init> -/
def am_c195 : List (Nat × Nat × Instr) := [(0, 0, .aload_n 0), (1, 1, .invokespecial 220), (4, 0, .aload_n 0), (5, 0, .iload_n 1), (6, 7, .putfield 1792), (9, 0, .aload_n 0), (10, 0, .aload_n 2), (11, 13, .putfield 1793), (14, 0, .return_)]
set_option maxHeartbeats 4000000 in
theorem am_ok195 : am_chk prog_12_method_1_code 14 true am_c195 = true := by decide +kernel
/-- FunDesk$Function.look -/
def am_c196 : List (Nat × Nat × Instr) := [(0, 0, .aload_n 0), (1, 13, .getfield 1793), (4, 17, .new 16), (7, 0, .dup), (8, 0, .aload_n 0), (9, 7, .getfield 1792), (12, 0, .aconst_null), (13, 0, .aload_n 1), (14, 19, .invokespecial 203), (17, 22, .invokeinterface 0 2), (22, 0, .return_)]
set_option maxHeartbeats 4000000 in
theorem am_ok196 : am_chk prog_12_method_2_code 14 false am_c196 = true := by decide +kernel
/-- FunDesk$Function.infer -/
def am_c197 : List (Nat × Nat × Instr) := [(0, 0, .aload_n 1), (1, 28, .invokevirtual 53), (4, 0, .astore_n 3), (5, 34, .new 2), (8, 0, .dup), (9, 36, .getstatic 5), (12, 0, .aload_n 3), (13, 0, .aload_n 0), (14, 13, .getfield 1793), (17, 0, .aload_n 1), (18, 17, .new 16), (21, 0, .dup), (22, 0, .aload_n 0), (23, 7, .getfield 1792), (26, 0, .aload_n 3), (27, 0, .aload_n 2), (28, 19, .invokespecial 203), (31, 42, .invokestatic 52), (34, 46, .invokespecial 74), (37, 0, .areturn)]
set_option maxHeartbeats 4000000 in
theorem am_ok197 : am_chk prog_12_method_3_code 14 false am_c197 = true := by decide +kernel
/-- FunDesk$Function.compile -/
def am_c198 : List (Nat × Nat × Instr) := [(0, 0, .aload_n 1), (1, 49, .getstatic 12), (4, 0, .iconst 0), (5, 55, .invokevirtual 63), (8, 0, .istore_n 3), (9, 0, .aload_n 0), (10, 13, .getfield 1793), (13, 0, .aload_n 1), (14, 17, .new 16), (17, 0, .dup), (18, 0, .aload_n 0), (19, 7, .getfield 1792), (22, 0, .aconst_null), (23, 0, .aload_n 2), (24, 19, .invokespecial 203), (27, 59, .invokeinterface 2 3), (32, 0, .aload_n 1), (33, 63, .getstatic 13), (36, 0, .iconst 0), (37, 55, .invokevirtual 63), (40, 0, .istore 4), (42, 0, .aload_n 1), (43, 66, .getfield 145), (46, 0, .iload_n 3), (47, 0, .iload 4), (49, 0, .iconst 1), (50, 0, .iadd), (51, 0, .iastore), (52, 0, .return_)]
set_option maxHeartbeats 4000000 in
theorem am_ok198 : am_chk prog_12_method_4_code 14 false am_c198 = true := by decide +kernel
/-- FunDesk$Let.<init> -/
def am_c199 : List (Nat × Nat × Instr) := [(0, 0, .aload_n 0), (1, 1, .invokespecial 220), (4, 0, .aload_n 0), (5, 0, .iload_n 1), (6, 7, .putfield 1920), (9, 0, .aload_n 0), (10, 0, .aload_n 2), (11, 13, .putfield 1921), (14, 0, .aload_n 0), (15, 0, .aload_n 3), (16, 17, .putfield 1922), (19, 0, .aload_n 0), (20, 0, .iload 4), (22, 20, .putfield 1923), (25, 0, .return_)]
set_option maxHeartbeats 4000000 in
theorem am_ok199 : am_chk prog_14_method_1_code 15 true am_c199 = true := by decide +kernel
/-- FunDesk$Let.look -/
def am_c200 : List (Nat × Nat × Instr) := [(0, 24, .new 16), (3, 0, .dup), (4, 0, .aload_n 0), (5, 7, .getfield 1920), (8, 0, .aconst_null), (9, 0, .aload_n 1), (10, 26, .invokespecial 203), (13, 0, .astore_n 2), (14, 0, .aload_n 0), (15, 13, .getfield 1921), (18, 0, .aload_n 0), (19, 20, .getfield 1923), (22, 0, .ifCond .eq 29), (25, 0, .aload_n 2), (26, 0, .goto 30), (29, 0, .aload_n 1), (30, 29, .invokeinterface 0 2), (35, 0, .aload_n 0), (36, 17, .getfield 1922), (39, 0, .aload_n 2), (40, 29, .invokeinterface 0 2), (45, 0, .return_)]
set_option maxHeartbeats 4000000 in
theorem am_ok200 : am_chk prog_14_method_2_code 15 false am_c200 = true := by decide +kernel
/-- FunDesk$Let.infer -/
def am_c201 : List (Nat × Nat × Instr) := [(0, 0, .aload_n 1), (1, 0, .dup), (2, 35, .getfield 131), (5, 0, .iconst 1), (6, 0, .iadd), (7, 35, .putfield 131), (10, 0, .aload_n 1), (11, 41, .invokevirtual 53), (14, 0, .astore_n 3), (15, 0, .aload_n 3), (16, 0, .aload_n 0), (17, 13, .getfield 1921), (20, 0, .aload_n 1), (21, 0, .aload_n 0), (22, 20, .getfield 1923), (25, 0, .ifCond .eq 44), (28, 24, .new 16), (31, 0, .dup), (32, 0, .aload_n 0), (33, 7, .getfield 1920), (36, 0, .aload_n 3), (37, 0, .aload_n 2), (38, 26, .invokespecial 203), (41, 0, .goto 45), (44, 0, .aload_n 2), (45, 45, .invokestatic 52), (48, 49, .invokestatic 54), (51, 0, .aload_n 1), (52, 0, .dup), (53, 35, .getfield 131), (56, 0, .iconst 1), (57, 0, .isub), (58, 35, .putfield 131), (61, 0, .aload_n 3), (62, 53, .invokestatic 55), (65, 0, .aload_n 3), (66, 0, .aload_n 1), (67, 35, .getfield 131), (70, 57, .invokestatic 60), (73, 0, .aload_n 0), (74, 17, .getfield 1922), (77, 0, .aload_n 1), (78, 24, .new 16), (81, 0, .dup), (82, 0, .aload_n 0), (83, 7, .getfield 1920), (86, 0, .aload_n 3), (87, 0, .aload_n 2), (88, 26, .invokespecial 203), (91, 45, .invokestatic 52), (94, 0, .areturn)]
set_option maxHeartbeats 4000000 in
theorem am_ok201 : am_chk prog_14_method_3_code 15 false am_c201 = true := by decide +kernel
/-- FunDesk$Let.compile -/
def am_c202 : List (Nat × Nat × Instr) := [(0, 24, .new 16), (3, 0, .dup), (4, 0, .aload_n 0), (5, 7, .getfield 1920), (8, 0, .aconst_null), (9, 0, .aload_n 2), (10, 26, .invokespecial 203), (13, 0, .astore_n 3), (14, 0, .aload_n 0), (15, 13, .getfield 1921), (18, 0, .aload_n 1), (19, 0, .aload_n 0), (20, 20, .getfield 1923), (23, 0, .ifCond .eq 30), (26, 0, .aload_n 3), (27, 0, .goto 31), (30, 0, .aload_n 2), (31, 61, .invokeinterface 2 3), (36, 0, .aload_n 1), (37, 0, .aload_n 0), (38, 20, .getfield 1923), (41, 0, .ifCond .eq 50), (44, 65, .getstatic 17), (47, 0, .goto 53), (50, 71, .getstatic 16), (53, 0, .iconst 0), (54, 74, .invokevirtual 63), (57, 0, .istore 4), (59, 0, .aload_n 0), (60, 17, .getfield 1922), (63, 0, .aload_n 1), (64, 0, .aload_n 3), (65, 61, .invokeinterface 2 3), (70, 0, .aload_n 1), (71, 78, .getstatic 18), (74, 0, .iconst 1), (75, 74, .invokevirtual 63), (78, 0, .istore 4), (80, 0, .return_)]
set_option maxHeartbeats 4000000 in
theorem am_ok202 : am_chk prog_14_method_4_code 15 false am_c202 = true := by decide +kernel
/-- FunDesk$Scope.<init> -/
def am_c203 : List (Nat × Nat × Instr) := [(0, 0, .aload_n 0), (1, 1, .invokespecial 220), (4, 0, .aload_n 0), (5, 0, .iload_n 1), (6, 7, .putfield 2048), (9, 0, .aload_n 0), (10, 0, .aload_n 2), (11, 13, .putfield 2049), (14, 0, .aload_n 0), (15, 0, .aload_n 3), (16, 17, .putfield 2050), (19, 0, .return_)]
set_option maxHeartbeats 4000000 in
theorem am_ok203 : am_chk prog_22_method_1_code 16 true am_c203 = true := by decide +kernel
/-- FunDesk$Scope.name -/
def am_c204 : List (Nat × Nat × Instr) := [(0, 0, .aload_n 0), (1, 7, .getfield 2048), (4, 0, .ireturn)]
set_option maxHeartbeats 4000000 in
theorem am_ok204 : am_chk prog_22_method_5_code 16 false am_c204 = true := by decide +kernel
/-- FunDesk$Scope.next -/
def am_c205 : List (Nat × Nat × Instr) := [(0, 0, .aload_n 0), (1, 17, .getfield 2050), (4, 0, .areturn)]
set_option maxHeartbeats 4000000 in
theorem am_ok205 : am_chk prog_22_method_7_code 16 false am_c205 = true := by decide +kernel
/-- FunDesk$Scope.type -/
def am_c206 : List (Nat × Nat × Instr) := [(0, 0, .aload_n 0), (1, 13, .getfield 2049), (4, 0, .areturn)]
set_option maxHeartbeats 4000000 in
theorem am_ok206 : am_chk prog_22_method_6_code 16 false am_c206 = true := by decide +kernel
/-- FunDesk$Whole.<init> -/
def am_c207 : List (Nat × Nat × Instr) := [(0, 0, .aload_n 0), (1, 1, .invokespecial 220), (4, 0, .aload_n 0), (5, 0, .iload_n 1), (6, 7, .putfield 2176), (9, 0, .return_)]
set_option maxHeartbeats 4000000 in
theorem am_ok207 : am_chk prog_26_method_1_code 17 true am_c207 = true := by decide +kernel
/-- FunDesk$Whole.number -/
def am_c208 : List (Nat × Nat × Instr) := [(0, 0, .aload_n 0), (1, 7, .getfield 2176), (4, 0, .ireturn)]
set_option maxHeartbeats 4000000 in
theorem am_ok208 : am_chk prog_26_method_5_code 17 false am_c208 = true := by decide +kernel
/-- FunDesk$Broken.<init> -/
def am_c209 : List (Nat × Nat × Instr) := [(0, 0, .aload_n 0), (1, 1, .invokespecial 220), (4, 0, .aload_n 0), (5, 0, .dload_n 1), (6, 7, .putfield 2304), (9, 0, .return_)]
set_option maxHeartbeats 4000000 in
theorem am_ok209 : am_chk prog_5_method_1_code 18 true am_c209 = true := by decide +kernel
/-- FunDesk$Broken.number -/
def am_c210 : List (Nat × Nat × Instr) := [(0, 0, .aload_n 0), (1, 7, .getfield 2304), (4, 0, .dreturn)]
set_option maxHeartbeats 4000000 in
theorem am_ok210 : am_chk prog_5_method_5_code 18 false am_c210 = true := by decide +kernel
/-- FunDesk$Built.<init> -/
def am_c211 : List (Nat × Nat × Instr) := [(0, 0, .aload_n 0), (1, 1, .invokespecial 220), (4, 0, .aload_n 0), (5, 0, .iload_n 1), (6, 7, .putfield 2432), (9, 0, .return_)]
set_option maxHeartbeats 4000000 in
theorem am_ok211 : am_chk prog_6_method_1_code 19 true am_c211 = true := by decide +kernel
/-- FunDesk$Built.name -/
def am_c212 : List (Nat × Nat × Instr) := [(0, 0, .aload_n 0), (1, 7, .getfield 2432), (4, 0, .ireturn)]
set_option maxHeartbeats 4000000 in
theorem am_ok212 : am_chk prog_6_method_5_code 19 false am_c212 = true := by decide +kernel
/-- FunDesk$Closure.<init> -/
def am_c213 : List (Nat × Nat × Instr) := [(0, 0, .aload_n 0), (1, 1, .invokespecial 220), (4, 0, .aload_n 0), (5, 0, .iload_n 1), (6, 7, .putfield 2560), (9, 0, .aload_n 0), (10, 0, .aload_n 2), (11, 13, .putfield 2561), (14, 0, .return_)]
set_option maxHeartbeats 4000000 in
theorem am_ok213 : am_chk prog_8_method_1_code 20 true am_c213 = true := by decide +kernel
/-- FunDesk$Closure.env -/
def am_c214 : List (Nat × Nat × Instr) := [(0, 0, .aload_n 0), (1, 13, .getfield 2561), (4, 0, .areturn)]
set_option maxHeartbeats 4000000 in
theorem am_ok214 : am_chk prog_8_method_6_code 20 false am_c214 = true := by decide +kernel
/-- FunDesk$Closure.at -/
def am_c215 : List (Nat × Nat × Instr) := [(0, 0, .aload_n 0), (1, 7, .getfield 2560), (4, 0, .ireturn)]
set_option maxHeartbeats 4000000 in
theorem am_ok215 : am_chk prog_8_method_5_code 20 false am_c215 = true := by decide +kernel
/-- FunDesk$Env.<init> -/
def am_c216 : List (Nat × Nat × Instr) := [(0, 0, .aload_n 0), (1, 1, .invokespecial 9999), (4, 0, .aload_n 0), (5, 0, .aload_n 1), (6, 7, .putfield 2688), (9, 0, .aload_n 0), (10, 0, .aload_n 2), (11, 13, .putfield 2689), (14, 0, .return_)]
set_option maxHeartbeats 4000000 in
theorem am_ok216 : am_chk prog_10_method_1_code 21 true am_c216 = true := by decide +kernel
/-- FunDesk$Cons.<init> -/
def am_c217 : List (Nat × Nat × Instr) := [(0, 0, .aload_n 0), (1, 1, .invokespecial 220), (4, 0, .aload_n 0), (5, 0, .aload_n 1), (6, 7, .putfield 2816), (9, 0, .aload_n 0), (10, 0, .aload_n 2), (11, 13, .putfield 2817), (14, 0, .return_)]
set_option maxHeartbeats 4000000 in
theorem am_ok217 : am_chk prog_9_method_1_code 22 true am_c217 = true := by decide +kernel
/-- FunDesk$Cons.first -/
def am_c218 : List (Nat × Nat × Instr) := [(0, 0, .aload_n 0), (1, 7, .getfield 2816), (4, 0, .areturn)]
set_option maxHeartbeats 4000000 in
theorem am_ok218 : am_chk prog_9_method_5_code 22 false am_c218 = true := by decide +kernel
/-- FunDesk$Cons.rest -/
def am_c219 : List (Nat × Nat × Instr) := [(0, 0, .aload_n 0), (1, 13, .getfield 2817), (4, 0, .areturn)]
set_option maxHeartbeats 4000000 in
theorem am_ok219 : am_chk prog_9_method_6_code 22 false am_c219 = true := by decide +kernel
/-- java/lang/Record.<init> -/
def am_c220 : List (Nat × Nat × Instr) := [(0, 0, .aload_n 0), (1, 1, .invokespecial 9999), (4, 0, .return_)]
set_option maxHeartbeats 4000000 in
theorem am_ok220 : am_chk prog_35_method_1_code 40 true am_c220 = true := by decide +kernel
