/-- LazyFormsModel.cases -/
def i_160 : List (Nat × Instr × Nat) := [(0, .aload_n 0, 1), (1, .getfield 54, 3), (4, .istore_n 1, 1), (5, .aload_n 0, 1), (6, .dup, 1), (7, .getfield 54, 3), (10, .iconst 1, 1), (11, .iadd, 1), (12, .putfield 54, 3), (15, .aload_n 0, 1), (16, .iconst 5, 1), (17, .iconst (-1), 1), (18, .iconst (-1), 1), (19, .iconst (-1), 1), (20, .iload_n 1, 1), (21, .invokevirtual 124, 3), (24, .istore_n 2, 1), (25, .aload_n 0, 1), (26, .getfield 83, 3), (29, .iload_n 2, 1), (30, .aload_n 0, 1), (31, .invokevirtual 148, 3), (34, .iastore, 1), (35, .aload_n 0, 1), (36, .bipush 9, 2), (38, .invokevirtual 141, 3), (41, .aload_n 0, 1), (42, .bipush 123, 2), (44, .invokevirtual 138, 3), (47, .iconst (-1), 1), (48, .istore_n 3, 1), (49, .aload_n 0, 1), (50, .invokevirtual 173, 3), (53, .istore 4, 2), (55, .iload_n 3, 1), (56, .ifCond .ge 14, 3), (59, .aload_n 0, 1), (60, .getfield 86, 3), (63, .iload_n 2, 1), (64, .iload 4, 2), (66, .iastore, 1), (67, .goto 11, 3), (70, .aload_n 0, 1), (71, .getfield 92, 3), (74, .iload_n 3, 1), (75, .iload 4, 2), (77, .iastore, 1), (78, .iload 4, 2), (80, .istore_n 3, 1), (81, .aload_n 0, 1), (82, .bipush 59, 2), (84, .invokevirtual 117, 3), (87, .ifCond .ne (-38), 3), (90, .aload_n 0, 1), (91, .bipush 125, 2), (93, .invokevirtual 138, 3), (96, .iload_n 2, 1), (97, .ireturn, 1)]
def x_160 : zCx := (6, false, 1, zCode i_160, [])
def b_160 : zS := (sSeq (sSt 1 1 (eP (p1 (oGf 6 6 1) (pL 3 0))))
  (sSeq (sPfo (eP (pL 3 0)) 6 6 1 oAdd (eP (pI 1)))
  (sSeq (sSt 1 2 (eCall 144 [(eP (pL 3 0)), (eP (pI 5)), (eP (pI (-1))), (eP (pI (-1))), (eP (pI (-1))), (eP (pL 1 1))]))
  (sSeq (sSe 1 (eP (p1 (oGf 6 12 3) (pL 3 0))) (eP (pL 1 2)) (eCall 156 [(eP (pL 3 0))]))
  (sSeq (sCall 149 [(eP (pL 3 0)), (eP (pI 9))])
  (sSeq (sCall 148 [(eP (pL 3 0)), (eP (pI 123))])
  (sSeq (sSt 1 3 (eP (pI (-1))))
  (sSeq (sDo (sBlk 4 (sSeq (sSt 1 4 (eCall 161 [(eP (pL 3 0))]))
  (sSeq (sIfE (cP (k0 .lt (pL 1 3)))
  (sSe 1 (eP (p1 (oGf 6 13 3) (pL 3 0))) (eP (pL 1 2)) (eP (pL 1 4)))
  (sSe 1 (eP (p1 (oGf 6 15 3) (pL 3 0))) (eP (pL 1 3)) (eP (pL 1 4))))
  (sSt 1 3 (eP (pL 1 4))))))
  (c0 .ne (eCall 147 [(eP (pL 3 0)), (eP (pI 59))])))
  (sSeq (sCall 148 [(eP (pL 3 0)), (eP (pI 125))])
  (sRet 1 (eP (pL 1 2))))))))))))
theorem k_160 : b_160.1.1 x_160 (0, true, []) = some ((98, false, []), [], []) := by decide +kernel
/-- LazyFormsModel.alt -/
def i_161 : List (Nat × Instr × Nat) := [(0, .aload_n 0, 1), (1, .getfield 54, 3), (4, .istore_n 1, 1), (5, .aload_n 0, 1), (6, .bipush 9, 2), (8, .iconst (-1), 1), (9, .iconst (-1), 1), (10, .iconst (-1), 1), (11, .iload_n 1, 1), (12, .invokevirtual 124, 3), (15, .istore_n 2, 1), (16, .aload_n 0, 1), (17, .getfield 51, 3), (20, .aload_n 0, 1), (21, .getfield 54, 3), (24, .iaload, 1), (25, .istore_n 3, 1), (26, .aload_n 0, 1), (27, .getfield 101, 3), (30, .iload_n 2, 1), (31, .iload_n 3, 1), (32, .iconst 3, 1), (33, .if_icmp .ne 7, 3), (36, .iconst 1, 1), (37, .goto 22, 3), (40, .iload_n 3, 1), (41, .iconst 2, 1), (42, .if_icmp .eq 12, 3), (45, .aload_n 0, 1), (46, .bipush 95, 2), (48, .invokevirtual 114, 3), (51, .ifCond .eq 7, 3), (54, .iconst 3, 1), (55, .goto 4, 3), (58, .iconst 2, 1), (59, .iastore, 1), (60, .iload_n 3, 1), (61, .iconst 3, 1), (62, .if_icmp .ne 42, 3), (65, .aload_n 0, 1), (66, .getfield 83, 3), (69, .iload_n 2, 1), (70, .aload_n 0, 1), (71, .getfield 57, 3), (74, .aload_n 0, 1), (75, .getfield 54, 3), (78, .iaload, 1), (79, .iastore, 1), (80, .aload_n 0, 1), (81, .dup, 1), (82, .getfield 54, 3), (85, .iconst 1, 1), (86, .iadd, 1), (87, .putfield 54, 3), (90, .aload_n 0, 1), (91, .getfield 86, 3), (94, .iload_n 2, 1), (95, .aload_n 0, 1), (96, .iconst 1, 1), (97, .invokevirtual 144, 3), (100, .iastore, 1), (101, .goto 105, 3), (104, .aload_n 0, 1), (105, .getfield 101, 3), (108, .iload_n 2, 1), (109, .iaload, 1), (110, .iconst 3, 1), (111, .if_icmp .ne 52, 3), (114, .aload_n 0, 1), (115, .getfield 86, 3), (118, .iload_n 2, 1), (119, .aload_n 0, 1), (120, .bipush 10, 2), (122, .iload_n 3, 1), (123, .iconst 2, 1), (124, .if_icmp .ne 15, 3), (127, .aload_n 0, 1), (128, .getfield 57, 3), (131, .aload_n 0, 1), (132, .getfield 54, 3), (135, .iaload, 1), (136, .goto 4, 3), (139, .iconst (-1), 1), (140, .iconst (-1), 1), (141, .iconst (-1), 1), (142, .aload_n 0, 1), (143, .getfield 54, 3), (146, .invokevirtual 124, 3), (149, .iastore, 1), (150, .aload_n 0, 1), (151, .dup, 1), (152, .getfield 54, 3), (155, .iconst 1, 1), (156, .iadd, 1), (157, .putfield 54, 3), (160, .goto 46, 3), (163, .aload_n 0, 1), (164, .bipush 45, 2), (166, .invokevirtual 117, 3), (169, .istore 4, 2), (171, .aload_n 0, 1), (172, .getfield 57, 3), (175, .aload_n 0, 1), (176, .getfield 54, 3), (179, .iaload, 1), (180, .istore 5, 2), (182, .aload_n 0, 1), (183, .iconst 4, 1), (184, .invokevirtual 141, 3), (187, .aload_n 0, 1), (188, .getfield 83, 3), (191, .iload_n 2, 1), (192, .iload 4, 2), (194, .ifCond .eq 9, 3), (197, .iload 5, 2), (199, .ineg, 1), (200, .goto 5, 3), (203, .iload 5, 2), (205, .iastore, 1), (206, .aload_n 0, 1), (207, .sipush 256, 3), (210, .invokevirtual 138, 3), (213, .aload_n 0, 1), (214, .getfield 89, 3), (217, .iload_n 2, 1), (218, .aload_n 0, 1), (219, .invokevirtual 148, 3), (222, .iastore, 1), (223, .iload_n 2, 1), (224, .ireturn, 1)]
def x_161 : zCx := (6, false, 1, zCode i_161, [])
def b_161 : zS := (sSeq (sSt 1 1 (eP (p1 (oGf 6 6 1) (pL 3 0))))
  (sSeq (sSt 1 2 (eCall 144 [(eP (pL 3 0)), (eP (pI 9)), (eP (pI (-1))), (eP (pI (-1))), (eP (pI (-1))), (eP (pL 1 1))]))
  (sSeq (sSt 1 3 (eP (p2 oIald (p1 (oGf 6 7 3) (pL 3 0)) (p1 (oGf 6 6 1) (pL 3 0)))))
  (sSeq (sSe 1 (eP (p1 (oGf 6 18 3) (pL 3 0))) (eP (pL 1 2)) (eIte (cP (kI .eq (pL 1 3) (pI 3))) (eP (pI 1)) (eIte (cOr (cP (kI .eq (pL 1 3) (pI 2))) (c0 .ne (eCall 146 [(eP (pL 3 0)), (eP (pI 95))]))) (eP (pI 3)) (eP (pI 2)))))
  (sSeq (sIfE (cP (kI .eq (pL 1 3) (pI 3)))
  (sSeq (sSe 1 (eP (p1 (oGf 6 12 3) (pL 3 0))) (eP (pL 1 2)) (eP (p2 oIald (p1 (oGf 6 8 3) (pL 3 0)) (p1 (oGf 6 6 1) (pL 3 0)))))
  (sSeq (sPfo (eP (pL 3 0)) 6 6 1 oAdd (eP (pI 1)))
  (sSe 1 (eP (p1 (oGf 6 13 3) (pL 3 0))) (eP (pL 1 2)) (eCall 150 [(eP (pL 3 0)), (eP (pI 1))]))))
  (sIfE (cP (kI .eq (p2 oIald (p1 (oGf 6 18 3) (pL 3 0)) (pL 1 2)) (pI 3)))
  (sSeq (sSe 1 (eP (p1 (oGf 6 13 3) (pL 3 0))) (eP (pL 1 2)) (eCall 144 [(eP (pL 3 0)), (eP (pI 10)), (eP (pIte (kI .eq (pL 1 3) (pI 2)) (p2 oIald (p1 (oGf 6 8 3) (pL 3 0)) (p1 (oGf 6 6 1) (pL 3 0))) (pI (-1)))), (eP (pI (-1))), (eP (pI (-1))), (eP (p1 (oGf 6 6 1) (pL 3 0)))]))
  (sPfo (eP (pL 3 0)) 6 6 1 oAdd (eP (pI 1))))
  (sBlk 4 (sSeq (sSt 1 4 (eCall 147 [(eP (pL 3 0)), (eP (pI 45))]))
  (sSeq (sSt 1 5 (eP (p2 oIald (p1 (oGf 6 8 3) (pL 3 0)) (p1 (oGf 6 6 1) (pL 3 0)))))
  (sSeq (sCall 149 [(eP (pL 3 0)), (eP (pI 4))])
  (sSe 1 (eP (p1 (oGf 6 12 3) (pL 3 0))) (eP (pL 1 2)) (eP (pIte (k0 .ne (pL 1 4)) (p1 oNeg (pL 1 5)) (pL 1 5))))))))))
  (sSeq (sCall 148 [(eP (pL 3 0)), (eP (pI 256))])
  (sSeq (sSe 1 (eP (p1 (oGf 6 14 3) (pL 3 0))) (eP (pL 1 2)) (eCall 156 [(eP (pL 3 0))]))
  (sRet 1 (eP (pL 1 2))))))))))
theorem k_161 : b_161.1.1 x_161 (0, true, []) = some ((225, false, []), [], []) := by decide +kernel
/-- LazyFormsModel.compare -/
def i_162 : List (Nat × Instr × Nat) := [(0, .aload_n 0, 1), (1, .invokevirtual 176, 3), (4, .istore_n 1, 1), (5, .aload_n 0, 1), (6, .bipush 60, 2), (8, .invokevirtual 114, 3), (11, .ifCond .ne 23, 3), (14, .aload_n 0, 1), (15, .sipush 257, 3), (18, .invokevirtual 114, 3), (21, .ifCond .ne 13, 3), (24, .aload_n 0, 1), (25, .sipush 258, 3), (28, .invokevirtual 114, 3), (31, .ifCond .eq 7, 3), (34, .iconst 1, 1), (35, .goto 4, 3), (38, .iconst 0, 1), (39, .istore_n 2, 1), (40, .iload_n 2, 1), (41, .ifCond .ne 5, 3), (44, .iload_n 1, 1), (45, .ireturn, 1), (46, .aload_n 0, 1), (47, .getfield 54, 3), (50, .istore_n 3, 1), (51, .aload_n 0, 1), (52, .dup, 1), (53, .getfield 54, 3), (56, .iconst 1, 1), (57, .iadd, 1), (58, .putfield 54, 3), (61, .aload_n 0, 1), (62, .invokevirtual 176, 3), (65, .istore 4, 2), (67, .aload_n 0, 1), (68, .bipush 6, 2), (70, .iload_n 1, 1), (71, .iload 4, 2), (73, .aload_n 0, 1), (74, .getfield 57, 3), (77, .iload_n 3, 1), (78, .iaload, 1), (79, .iload_n 3, 1), (80, .invokevirtual 124, 3), (83, .ireturn, 1)]
def x_162 : zCx := (6, false, 1, zCode i_162, [])
def b_162 : zS := (sSeq (sSt 1 1 (eCall 163 [(eP (pL 3 0))]))
  (sSeq (sSt 1 2 (eB (cOr (cOr (c0 .ne (eCall 146 [(eP (pL 3 0)), (eP (pI 60))])) (c0 .ne (eCall 146 [(eP (pL 3 0)), (eP (pI 257))]))) (c0 .ne (eCall 146 [(eP (pL 3 0)), (eP (pI 258))])))))
  (sSeq (sIf (cP (kNot (k0 .ne (pL 1 2))))
  (sRet 1 (eP (pL 1 1))))
  (sSeq (sSt 1 3 (eP (p1 (oGf 6 6 1) (pL 3 0))))
  (sSeq (sPfo (eP (pL 3 0)) 6 6 1 oAdd (eP (pI 1)))
  (sSeq (sSt 1 4 (eCall 163 [(eP (pL 3 0))]))
  (sRet 1 (eCall 144 [(eP (pL 3 0)), (eP (pI 6)), (eP (pL 1 1)), (eP (pL 1 4)), (eP (p2 oIald (p1 (oGf 6 8 3) (pL 3 0)) (pL 1 3))), (eP (pL 1 3))]))))))))
theorem k_162 : b_162.1.1 x_162 (0, true, []) = some ((84, false, []), [], []) := by decide +kernel
/-- LazyFormsModel.sum -/
def i_163 : List (Nat × Instr × Nat) := [(0, .aload_n 0, 1), (1, .invokevirtual 179, 3), (4, .istore_n 1, 1), (5, .aload_n 0, 1), (6, .bipush 43, 2), (8, .invokevirtual 114, 3), (11, .ifCond .ne 12, 3), (14, .aload_n 0, 1), (15, .bipush 45, 2), (17, .invokevirtual 114, 3), (20, .ifCond .eq 42, 3), (23, .aload_n 0, 1), (24, .getfield 54, 3), (27, .istore_n 2, 1), (28, .aload_n 0, 1), (29, .dup, 1), (30, .getfield 54, 3), (33, .iconst 1, 1), (34, .iadd, 1), (35, .putfield 54, 3), (38, .aload_n 0, 1), (39, .invokevirtual 179, 3), (42, .istore_n 3, 1), (43, .aload_n 0, 1), (44, .bipush 6, 2), (46, .iload_n 1, 1), (47, .iload_n 3, 1), (48, .aload_n 0, 1), (49, .getfield 57, 3), (52, .iload_n 2, 1), (53, .iaload, 1), (54, .iload_n 2, 1), (55, .invokevirtual 124, 3), (58, .istore_n 1, 1), (59, .goto (-54), 3), (62, .iload_n 1, 1), (63, .ireturn, 1)]
def x_163 : zCx := (6, false, 1, zCode i_163, [])
def b_163 : zS := (sSeq (sSt 1 1 (eCall 164 [(eP (pL 3 0))]))
  (sSeq (sWh (cOr (c0 .ne (eCall 146 [(eP (pL 3 0)), (eP (pI 43))])) (c0 .ne (eCall 146 [(eP (pL 3 0)), (eP (pI 45))])))
  (sBlk 2 (sSeq (sSt 1 2 (eP (p1 (oGf 6 6 1) (pL 3 0))))
  (sSeq (sPfo (eP (pL 3 0)) 6 6 1 oAdd (eP (pI 1)))
  (sSeq (sSt 1 3 (eCall 164 [(eP (pL 3 0))]))
  (sSt 1 1 (eCall 144 [(eP (pL 3 0)), (eP (pI 6)), (eP (pL 1 1)), (eP (pL 1 3)), (eP (p2 oIald (p1 (oGf 6 8 3) (pL 3 0)) (pL 1 2))), (eP (pL 1 2))]))))))
  sSkip)
  (sRet 1 (eP (pL 1 1)))))
theorem k_163 : b_163.1.1 x_163 (0, true, []) = some ((64, false, []), [], []) := by decide +kernel
/-- LazyFormsModel.product -/
def i_164 : List (Nat × Instr × Nat) := [(0, .aload_n 0, 1), (1, .invokevirtual 182, 3), (4, .istore_n 1, 1), (5, .aload_n 0, 1), (6, .bipush 42, 2), (8, .invokevirtual 114, 3), (11, .ifCond .ne 12, 3), (14, .aload_n 0, 1), (15, .bipush 47, 2), (17, .invokevirtual 114, 3), (20, .ifCond .eq 42, 3), (23, .aload_n 0, 1), (24, .getfield 54, 3), (27, .istore_n 2, 1), (28, .aload_n 0, 1), (29, .dup, 1), (30, .getfield 54, 3), (33, .iconst 1, 1), (34, .iadd, 1), (35, .putfield 54, 3), (38, .aload_n 0, 1), (39, .invokevirtual 182, 3), (42, .istore_n 3, 1), (43, .aload_n 0, 1), (44, .bipush 6, 2), (46, .iload_n 1, 1), (47, .iload_n 3, 1), (48, .aload_n 0, 1), (49, .getfield 57, 3), (52, .iload_n 2, 1), (53, .iaload, 1), (54, .iload_n 2, 1), (55, .invokevirtual 124, 3), (58, .istore_n 1, 1), (59, .goto (-54), 3), (62, .iload_n 1, 1), (63, .ireturn, 1)]
def x_164 : zCx := (6, false, 1, zCode i_164, [])
def b_164 : zS := (sSeq (sSt 1 1 (eCall 165 [(eP (pL 3 0))]))
  (sSeq (sWh (cOr (c0 .ne (eCall 146 [(eP (pL 3 0)), (eP (pI 42))])) (c0 .ne (eCall 146 [(eP (pL 3 0)), (eP (pI 47))])))
  (sBlk 2 (sSeq (sSt 1 2 (eP (p1 (oGf 6 6 1) (pL 3 0))))
  (sSeq (sPfo (eP (pL 3 0)) 6 6 1 oAdd (eP (pI 1)))
  (sSeq (sSt 1 3 (eCall 165 [(eP (pL 3 0))]))
  (sSt 1 1 (eCall 144 [(eP (pL 3 0)), (eP (pI 6)), (eP (pL 1 1)), (eP (pL 1 3)), (eP (p2 oIald (p1 (oGf 6 8 3) (pL 3 0)) (pL 1 2))), (eP (pL 1 2))]))))))
  sSkip)
  (sRet 1 (eP (pL 1 1)))))
theorem k_164 : b_164.1.1 x_164 (0, true, []) = some ((64, false, []), [], []) := by decide +kernel
/-- LazyFormsModel.use -/
def i_165 : List (Nat × Instr × Nat) := [(0, .aload_n 0, 1), (1, .getfield 54, 3), (4, .istore_n 1, 1), (5, .aload_n 0, 1), (6, .getfield 51, 3), (9, .aload_n 0, 1), (10, .getfield 54, 3), (13, .iaload, 1), (14, .iconst 3, 1), (15, .if_icmp .ne 7, 3), (18, .iconst 1, 1), (19, .goto 4, 3), (22, .iconst 0, 1), (23, .istore_n 2, 1), (24, .aload_n 0, 1), (25, .invokevirtual 185, 3), (28, .istore_n 3, 1), (29, .iconst (-1), 1), (30, .istore 4, 2), (32, .iconst (-1), 1), (33, .istore 5, 2), (35, .aload_n 0, 1), (36, .invokevirtual 151, 3), (39, .ifCond .eq 57, 3), (42, .aload_n 0, 1), (43, .getfield 54, 3), (46, .istore 6, 2), (48, .aload_n 0, 1), (49, .invokevirtual 185, 3), (52, .istore 7, 2), (54, .aload_n 0, 1), (55, .bipush 10, 2), (57, .iload 7, 2), (59, .iconst (-1), 1), (60, .iconst (-1), 1), (61, .iload 6, 2), (63, .invokevirtual 124, 3), (66, .istore 8, 2), (68, .iload 4, 2), (70, .ifCond .ge 10, 3), (73, .iload 8, 2), (75, .istore 4, 2), (77, .goto 12, 3), (80, .aload_n 0, 1), (81, .getfield 92, 3), (84, .iload 5, 2), (86, .iload 8, 2), (88, .iastore, 1), (89, .iload 8, 2), (91, .istore 5, 2), (93, .goto (-58), 3), (96, .iload 4, 2), (98, .ifCond .ge 5, 3), (101, .iload_n 3, 1), (102, .ireturn, 1), (103, .iload_n 2, 1), (104, .ifCond .eq 13, 3), (107, .aload_n 0, 1), (108, .getfield 86, 3), (111, .iload_n 3, 1), (112, .iload 4, 2), (114, .iastore, 1), (115, .iload_n 3, 1), (116, .ireturn, 1), (117, .aload_n 0, 1), (118, .bipush 7, 2), (120, .iload_n 3, 1), (121, .iload 4, 2), (123, .iconst (-1), 1), (124, .iload_n 1, 1), (125, .invokevirtual 124, 3), (128, .ireturn, 1)]
def x_165 : zCx := (6, false, 1, zCode i_165, [])
def b_165 : zS := (sSeq (sSt 1 1 (eP (p1 (oGf 6 6 1) (pL 3 0))))
  (sSeq (sSt 1 2 (eP (pB (kI .eq (p2 oIald (p1 (oGf 6 7 3) (pL 3 0)) (p1 (oGf 6 6 1) (pL 3 0))) (pI 3)))))
  (sSeq (sSt 1 3 (eCall 167 [(eP (pL 3 0))]))
  (sSeq (sSt 1 4 (eP (pI (-1))))
  (sSeq (sSt 1 5 (eP (pI (-1))))
  (sSeq (sWh (c0 .ne (eCall 155 [(eP (pL 3 0))]))
  (sBlk 6 (sSeq (sSt 1 6 (eP (p1 (oGf 6 6 1) (pL 3 0))))
  (sSeq (sSt 1 7 (eCall 167 [(eP (pL 3 0))]))
  (sSeq (sSt 1 8 (eCall 144 [(eP (pL 3 0)), (eP (pI 10)), (eP (pL 1 7)), (eP (pI (-1))), (eP (pI (-1))), (eP (pL 1 6))]))
  (sSeq (sIfE (cP (k0 .lt (pL 1 4)))
  (sSt 1 4 (eP (pL 1 8)))
  (sSe 1 (eP (p1 (oGf 6 15 3) (pL 3 0))) (eP (pL 1 5)) (eP (pL 1 8))))
  (sSt 1 5 (eP (pL 1 8))))))))
  sSkip)
  (sSeq (sIf (cP (k0 .lt (pL 1 4)))
  (sRet 1 (eP (pL 1 3))))
  (sSeq (sIf (cP (k0 .ne (pL 1 2)))
  (sSeq (sSe 1 (eP (p1 (oGf 6 13 3) (pL 3 0))) (eP (pL 1 3)) (eP (pL 1 4)))
  (sRet 1 (eP (pL 1 3)))))
  (sRet 1 (eCall 144 [(eP (pL 3 0)), (eP (pI 7)), (eP (pL 1 3)), (eP (pL 1 4)), (eP (pI (-1))), (eP (pL 1 1))]))))))))))
theorem k_165 : b_165.1.1 x_165 (0, true, []) = some ((129, false, []), [], []) := by decide +kernel
/-- LazyFormsModel.use -/
def i_166 : List (Nat × Instr × Nat) := [(0, .aload_n 0, 1), (1, .aload_n 0, 1), (2, .getfield 89, 3), (5, .iload_n 1, 1), (6, .iaload, 1), (7, .aload_n 0, 1), (8, .getfield 98, 3), (11, .iload_n 1, 1), (12, .iaload, 1), (13, .invokevirtual 459, 3), (16, .ifCond .ne 4, 3), (19, .return_, 1), (20, .aload_n 0, 1), (21, .getfield 350, 3), (24, .istore_n 2, 1), (25, .iconst 0, 1), (26, .istore_n 3, 1), (27, .aload_n 0, 1), (28, .getfield 86, 3), (31, .iload_n 1, 1), (32, .iaload, 1), (33, .istore 4, 2), (35, .iload 4, 2), (37, .ifCond .lt 35, 3), (40, .aload_n 0, 1), (41, .getfield 487, 3), (44, .iload_n 3, 1), (45, .aload_n 0, 1), (46, .aload_n 0, 1), (47, .getfield 83, 3), (50, .iload 4, 2), (52, .iaload, 1), (53, .invokevirtual 457, 3), (56, .lastore, 1), (57, .iinc 3 1, 3), (60, .aload_n 0, 1), (61, .getfield 92, 3), (64, .iload 4, 2), (66, .iaload, 1), (67, .istore 4, 2), (69, .goto (-34), 3), (72, .aload_n 0, 1), (73, .iconst 2, 1), (74, .iload_n 1, 1), (75, .iconst 0, 1), (76, .invokevirtual 476, 3), (79, .ifCond .ne 4, 3), (82, .return_, 1), (83, .iconst 0, 1), (84, .istore 4, 2), (86, .iload 4, 2), (88, .iload_n 3, 1), (89, .if_icmp .ge 28, 3), (92, .aload_n 0, 1), (93, .getfield 365, 3), (96, .bipush 16, 2), (98, .iload_n 2, 1), (99, .imul, 1), (100, .iload 4, 2), (102, .iadd, 1), (103, .aload_n 0, 1), (104, .getfield 487, 3), (107, .iload 4, 2), (109, .laload, 1), (110, .lastore, 1), (111, .iinc 4 1, 3), (114, .goto (-28), 3), (117, .aload_n 0, 1), (118, .getfield 359, 3), (121, .iload_n 2, 1), (122, .iload_n 3, 1), (123, .iastore, 1), (124, .aload_n 0, 1), (125, .aload_n 0, 1), (126, .getfield 83, 3), (129, .iload_n 1, 1), (130, .iaload, 1), (131, .putfield 462, 3), (134, .return_, 1)]
def x_166 : zCx := (6, false, 0, zCode i_166, [])
def b_166 : zS := (sSeq (sSeq (sIf (cNot (c0 .ne (eCall 195 [(eP (pL 3 0)), (eP (p2 oIald (p1 (oGf 6 14 3) (pL 3 0)) (pL 1 1))), (eP (p2 oIald (p1 (oGf 6 17 3) (pL 3 0)) (pL 1 1)))])))
  sRet0)
  (sSeq (sSt 1 2 (eP (p1 (oGf 6 49 1) (pL 3 0))))
  (sSeq (sSt 1 3 (eP (pI 0)))
  (sSeq (sBlk 4 (sSeq (sSt 1 4 (eP (p2 oIald (p1 (oGf 6 13 3) (pL 3 0)) (pL 1 1))))
  (sWh (cP (k0 .ge (pL 1 4)))
  (sSeq (sSe 4 (eP (p1 (oGf 6 71 3) (pL 3 0))) (eP (pL 1 3)) (eCall 168 [(eP (pL 3 0)), (eP (p2 oIald (p1 (oGf 6 12 3) (pL 3 0)) (pL 1 4)))]))
  (sInc 3 1))
  (sSt 1 4 (eP (p2 oIald (p1 (oGf 6 15 3) (pL 3 0)) (pL 1 4)))))))
  (sSeq (sIf (cNot (c0 .ne (eCall 198 [(eP (pL 3 0)), (eP (pI 2)), (eP (pL 1 1)), (eP (pI 0))])))
  sRet0)
  (sSeq (sBlk 4 (sSeq (sSt 1 4 (eP (pI 0)))
  (sWh (cP (kI .lt (pL 1 4) (pL 1 3)))
  (sSe 4 (eP (p1 (oGf 6 55 3) (pL 3 0))) (eP (p2 oAdd (p2 oMul (pI 16) (pL 1 2)) (pL 1 4))) (eP (p2 oLald (p1 (oGf 6 71 3) (pL 3 0)) (pL 1 4))))
  (sInc 4 1))))
  (sSeq (sSe 1 (eP (p1 (oGf 6 53 3) (pL 3 0))) (eP (pL 1 2)) (eP (pL 1 3)))
  (sPf (eP (pL 3 0)) 6 57 1 (eP (p2 oIald (p1 (oGf 6 12 3) (pL 3 0)) (pL 1 1)))))))))))
  sRet0)
theorem k_166 : b_166.1.1 x_166 (0, true, []) = some ((135, false, []), [], []) := by decide +kernel
/-- LazyFormsModel.atom -/
def i_167 : List (Nat × Instr × Nat) := [(0, .aload_n 0, 1), (1, .getfield 54, 3), (4, .istore_n 1, 1), (5, .aload_n 0, 1), (6, .bipush 40, 2), (8, .invokevirtual 117, 3), (11, .ifCond .eq 16, 3), (14, .aload_n 0, 1), (15, .invokevirtual 148, 3), (18, .istore_n 2, 1), (19, .aload_n 0, 1), (20, .bipush 41, 2), (22, .invokevirtual 138, 3), (25, .iload_n 2, 1), (26, .ireturn, 1), (27, .aload_n 0, 1), (28, .invokevirtual 151, 3), (31, .ifCond .ne 9, 3), (34, .aload_n 0, 1), (35, .iconst 1, 1), (36, .invokevirtual 120, 3), (39, .athrow, 1), (40, .aload_n 0, 1), (41, .dup, 1), (42, .getfield 54, 3), (45, .iconst 1, 1), (46, .iadd, 1), (47, .putfield 54, 3), (50, .aload_n 0, 1), (51, .getfield 51, 3), (54, .iload_n 1, 1), (55, .iaload, 1), (56, .iconst 4, 1), (57, .if_icmp .ne 20, 3), (60, .aload_n 0, 1), (61, .iconst 0, 1), (62, .aload_n 0, 1), (63, .getfield 57, 3), (66, .iload_n 1, 1), (67, .iaload, 1), (68, .iconst (-1), 1), (69, .iconst (-1), 1), (70, .iload_n 1, 1), (71, .invokevirtual 124, 3), (74, .goto 44, 3), (77, .aload_n 0, 1), (78, .getfield 51, 3), (81, .iload_n 1, 1), (82, .iaload, 1), (83, .iconst 3, 1), (84, .if_icmp .ne 20, 3), (87, .aload_n 0, 1), (88, .iconst 1, 1), (89, .aload_n 0, 1), (90, .getfield 57, 3), (93, .iload_n 1, 1), (94, .iaload, 1), (95, .iconst (-1), 1), (96, .iconst (-1), 1), (97, .iload_n 1, 1), (98, .invokevirtual 124, 3), (101, .goto 17, 3), (104, .aload_n 0, 1), (105, .iconst 2, 1), (106, .aload_n 0, 1), (107, .getfield 57, 3), (110, .iload_n 1, 1), (111, .iaload, 1), (112, .iconst (-1), 1), (113, .iconst (-1), 1), (114, .iload_n 1, 1), (115, .invokevirtual 124, 3), (118, .ireturn, 1)]
def x_167 : zCx := (6, false, 1, zCode i_167, [])
def b_167 : zS := (sSeq (sSt 1 1 (eP (p1 (oGf 6 6 1) (pL 3 0))))
  (sSeq (sIf (c0 .ne (eCall 147 [(eP (pL 3 0)), (eP (pI 40))]))
  (sBlk 2 (sSeq (sSt 1 2 (eCall 156 [(eP (pL 3 0))]))
  (sSeq (sCall 148 [(eP (pL 3 0)), (eP (pI 41))])
  (sRet 1 (eP (pL 1 2)))))))
  (sSeq (sIf (cNot (c0 .ne (eCall 155 [(eP (pL 3 0))])))
  (sThr (eCall 145 [(eP (pL 3 0)), (eP (pI 1))])))
  (sSeq (sPfo (eP (pL 3 0)) 6 6 1 oAdd (eP (pI 1)))
  (sRet 1 (eIte (cP (kI .eq (p2 oIald (p1 (oGf 6 7 3) (pL 3 0)) (pL 1 1)) (pI 4))) (eCall 144 [(eP (pL 3 0)), (eP (pI 0)), (eP (p2 oIald (p1 (oGf 6 8 3) (pL 3 0)) (pL 1 1))), (eP (pI (-1))), (eP (pI (-1))), (eP (pL 1 1))]) (eIte (cP (kI .eq (p2 oIald (p1 (oGf 6 7 3) (pL 3 0)) (pL 1 1)) (pI 3))) (eCall 144 [(eP (pL 3 0)), (eP (pI 1)), (eP (p2 oIald (p1 (oGf 6 8 3) (pL 3 0)) (pL 1 1))), (eP (pI (-1))), (eP (pI (-1))), (eP (pL 1 1))]) (eCall 144 [(eP (pL 3 0)), (eP (pI 2)), (eP (p2 oIald (p1 (oGf 6 8 3) (pL 3 0)) (pL 1 1))), (eP (pI (-1))), (eP (pI (-1))), (eP (pL 1 1))]))))))))
theorem k_167 : b_167.1.1 x_167 (0, true, []) = some ((119, false, []), [], []) := by decide +kernel
/-- LazyFormsModel.atom -/
def i_168 : List (Nat × Instr × Nat) := [(0, .aload_n 0, 1), (1, .getfield 80, 3), (4, .iload_n 1, 1), (5, .iaload, 1), (6, .iconst 2, 1), (7, .if_icmp .ne 11, 3), (10, .aload_n 0, 1), (11, .iload_n 1, 1), (12, .invokevirtual 433, 3), (15, .goto 8, 3), (18, .aload_n 0, 1), (19, .iload_n 1, 1), (20, .invokevirtual 436, 3), (23, .lreturn, 1)]
def x_168 : zCx := (6, false, 2, zCode i_168, [])
def b_168 : zS := (sRet 2 (eIte (cP (kI .eq (p2 oIald (p1 (oGf 6 11 3) (pL 3 0)) (pL 1 1)) (pI 2))) (eCall 140 [(eP (pL 3 0)), (eP (pL 1 1))]) (eCall 199 [(eP (pL 3 0)), (eP (pL 1 1))])))
theorem k_168 : b_168.1.1 x_168 (0, true, []) = some ((24, false, []), [], []) := by decide +kernel
/-- LazyFormsModel.rule -/
def i_169 : List (Nat × Instr × Nat) := [(0, .aload_n 0, 1), (1, .aload_n 0, 1), (2, .getfield 188, 3), (5, .iload_n 1, 1), (6, .sipush 2000, 3), (9, .aload_n 0, 1), (10, .getfield 15, 3), (13, .imul, 1), (14, .isub, 1), (15, .invokestatic 191, 3), (18, .putfield 188, 3), (21, .return_, 1)]
def x_169 : zCx := (6, false, 0, zCode i_169, [])
def b_169 : zS := (sSeq (sPf (eP (pL 3 0)) 6 26 1 (eCall 236 [(eP (p1 (oGf 6 26 1) (pL 3 0))), (eP (p2 oSub (pL 1 1) (p2 oMul (pI 2000) (p1 (oGf 6 4 1) (pL 3 0)))))]))
  sRet0)
theorem k_169 : b_169.1.1 x_169 (0, true, []) = some ((22, false, []), [], []) := by decide +kernel
/-- LazyFormsModel.below -/
def i_170 : List (Nat × Instr × Nat) := [(0, .iload_n 0, 1), (1, .bipush 15, 2), (3, .if_icmp .le 8, 3), (6, .ldc 196, 2), (8, .goto 8, 3), (11, .iconst 1, 1), (12, .iload_n 0, 1), (13, .ishl, 1), (14, .iconst 1, 1), (15, .isub, 1), (16, .ireturn, 1)]
def x_170 : zCx := (6, false, 1, zCode i_170, [])
def b_170 : zS := (sRet 1 (eP (pIte (kI .gt (pL 1 0) (pI 15)) (pI 65535) (p2 oSub (p2 oShl (pI 1) (pL 1 0)) (pI 1)))))
theorem k_170 : b_170.1.1 x_170 (0, true, []) = some ((17, false, []), [], []) := by decide +kernel
/-- LazyFormsModel.definitionOf -/
def i_171 : List (Nat × Instr × Nat) := [(0, .aload_n 0, 1), (1, .getfield 197, 3), (4, .ifCond .eq 10, 3), (7, .aload_n 0, 1), (8, .getfield 201, 3), (11, .goto 7, 3), (14, .aload_n 0, 1), (15, .getfield 128, 3), (18, .istore_n 2, 1), (19, .iconst 0, 1), (20, .istore_n 3, 1), (21, .iload_n 3, 1), (22, .iload_n 2, 1), (23, .if_icmp .ge 46, 3), (26, .aload_n 0, 1), (27, .aload_n 0, 1), (28, .getfield 83, 3), (31, .aload_n 0, 1), (32, .getfield 197, 3), (35, .ifCond .eq 12, 3), (38, .aload_n 0, 1), (39, .getfield 204, 3), (42, .iload_n 3, 1), (43, .iaload, 1), (44, .goto 9, 3), (47, .aload_n 0, 1), (48, .getfield 131, 3), (51, .iload_n 3, 1), (52, .iaload, 1), (53, .iaload, 1), (54, .iload_n 1, 1), (55, .invokevirtual 207, 3), (58, .ifCond .eq 5, 3), (61, .iload_n 3, 1), (62, .ireturn, 1), (63, .iinc 3 1, 3), (66, .goto (-45), 3), (69, .iconst (-1), 1), (70, .ireturn, 1)]
def x_171 : zCx := (6, false, 1, zCode i_171, [])
def b_171 : zS := (sSeq (sSt 1 2 (eP (pIte (k0 .ne (p1 (oGf 6 33 4) (pL 3 0))) (p1 (oGf 6 31 1) (pL 3 0)) (p1 (oGf 6 23 1) (pL 3 0)))))
  (sSeq (sBlk 3 (sSeq (sSt 1 3 (eP (pI 0)))
  (sWh (cP (kI .lt (pL 1 3) (pL 1 2)))
  (sIf (c0 .ne (eCall 143 [(eP (pL 3 0)), (eP (p2 oIald (p1 (oGf 6 12 3) (pL 3 0)) (pIte (k0 .ne (p1 (oGf 6 33 4) (pL 3 0))) (p2 oIald (p1 (oGf 6 32 3) (pL 3 0)) (pL 1 3)) (p2 oIald (p1 (oGf 6 24 3) (pL 3 0)) (pL 1 3))))), (eP (pL 1 1))]))
  (sRet 1 (eP (pL 1 3))))
  (sInc 3 1))))
  (sRet 1 (eP (pI (-1))))))
theorem k_171 : b_171.1.1 x_171 (0, true, []) = some ((71, false, []), [], []) := by decide +kernel
/-- LazyFormsModel.stand -/
def i_172 : List (Nat × Instr × Nat) := [(0, .aload_n 0, 1), (1, .getfield 211, 3), (4, .iload_n 1, 1), (5, .iconst (-1), 1), (6, .iastore, 1), (7, .iload_n 2, 1), (8, .ifCond .ge 4, 3), (11, .return_, 1), (12, .aload_n 0, 1), (13, .getfield 214, 3), (16, .bipush 16, 2), (18, .if_icmp .lt 13, 3), (21, .aload_n 0, 1), (22, .aload_n 0, 1), (23, .getfield 95, 3), (26, .iload_n 1, 1), (27, .iaload, 1), (28, .invokevirtual 217, 3), (31, .aload_n 0, 1), (32, .getfield 211, 3), (35, .iload_n 1, 1), (36, .aload_n 0, 1), (37, .getfield 214, 3), (40, .iastore, 1), (41, .aload_n 0, 1), (42, .getfield 220, 3), (45, .aload_n 0, 1), (46, .getfield 214, 3), (49, .iload_n 2, 1), (50, .iastore, 1), (51, .aload_n 0, 1), (52, .dup, 1), (53, .getfield 214, 3), (56, .iconst 1, 1), (57, .iadd, 1), (58, .putfield 214, 3), (61, .return_, 1)]
def x_172 : zCx := (6, false, 0, zCode i_172, [])
def b_172 : zS := (sSeq (sSeq (sSe 1 (eP (p1 (oGf 6 25 3) (pL 3 0))) (eP (pL 1 1)) (eP (pI (-1))))
  (sSeq (sIf (cP (k0 .lt (pL 1 2)))
  sRet0)
  (sSeq (sIf (cP (kI .ge (p1 (oGf 6 27 1) (pL 3 0)) (pI 16)))
  (sCall 169 [(eP (pL 3 0)), (eP (p2 oIald (p1 (oGf 6 16 3) (pL 3 0)) (pL 1 1)))]))
  (sSeq (sSe 1 (eP (p1 (oGf 6 25 3) (pL 3 0))) (eP (pL 1 1)) (eP (p1 (oGf 6 27 1) (pL 3 0))))
  (sSeq (sSe 1 (eP (p1 (oGf 6 28 3) (pL 3 0))) (eP (p1 (oGf 6 27 1) (pL 3 0))) (eP (pL 1 2)))
  (sPfo (eP (pL 3 0)) 6 27 1 oAdd (eP (pI 1))))))))
  sRet0)
theorem k_172 : b_172.1.1 x_172 (0, true, []) = some ((62, false, []), [], []) := by decide +kernel
/-- LazyFormsModel.bind -/
def i_173 : List (Nat × Instr × Nat) := [(0, .iconst 0, 1), (1, .istore_n 2, 1), (2, .iload_n 1, 1), (3, .istore_n 3, 1), (4, .iload_n 3, 1), (5, .ifCond .lt 113, 3), (8, .iinc 2 1, 3), (11, .iload_n 2, 1), (12, .bipush 6, 2), (14, .if_icmp .le 13, 3), (17, .aload_n 0, 1), (18, .aload_n 0, 1), (19, .getfield 95, 3), (22, .iload_n 3, 1), (23, .iaload, 1), (24, .invokevirtual 217, 3), (27, .iload_n 1, 1), (28, .istore 4, 2), (30, .iload 4, 2), (32, .iload_n 3, 1), (33, .if_icmp .eq 64, 3), (36, .aload_n 0, 1), (37, .getfield 83, 3), (40, .iload_n 3, 1), (41, .iaload, 1), (42, .ifCond .lt 43, 3), (45, .aload_n 0, 1), (46, .getfield 83, 3), (49, .iload 4, 2), (51, .iaload, 1), (52, .ifCond .lt 33, 3), (55, .aload_n 0, 1), (56, .aload_n 0, 1), (57, .getfield 83, 3), (60, .iload_n 3, 1), (61, .iaload, 1), (62, .aload_n 0, 1), (63, .getfield 83, 3), (66, .iload 4, 2), (68, .iaload, 1), (69, .invokevirtual 207, 3), (72, .ifCond .eq 13, 3), (75, .aload_n 0, 1), (76, .aload_n 0, 1), (77, .getfield 95, 3), (80, .iload_n 3, 1), (81, .iaload, 1), (82, .invokevirtual 217, 3), (85, .aload_n 0, 1), (86, .getfield 92, 3), (89, .iload 4, 2), (91, .iaload, 1), (92, .istore 4, 2), (94, .goto (-64), 3), (97, .aload_n 0, 1), (98, .iload_n 3, 1), (99, .aload_n 0, 1), (100, .getfield 83, 3), (103, .iload_n 3, 1), (104, .iaload, 1), (105, .invokevirtual 223, 3), (108, .aload_n 0, 1), (109, .getfield 92, 3), (112, .iload_n 3, 1), (113, .iaload, 1), (114, .istore_n 3, 1), (115, .goto (-111), 3), (118, .return_, 1)]
def x_173 : zCx := (6, false, 0, zCode i_173, [])
def b_173 : zS := (sSeq (sSeq (sSt 1 2 (eP (pI 0)))
  (sBlk 3 (sSeq (sSt 1 3 (eP (pL 1 1)))
  (sWh (cP (k0 .ge (pL 1 3)))
  (sSeq (sInc 2 1)
  (sSeq (sIf (cP (kI .gt (pL 1 2) (pI 6)))
  (sCall 169 [(eP (pL 3 0)), (eP (p2 oIald (p1 (oGf 6 16 3) (pL 3 0)) (pL 1 3)))]))
  (sSeq (sBlk 4 (sSeq (sSt 1 4 (eP (pL 1 1)))
  (sWh (cP (kI .ne (pL 1 4) (pL 1 3)))
  (sIf (cAnd (cP (kAnd (k0 .ge (p2 oIald (p1 (oGf 6 12 3) (pL 3 0)) (pL 1 3))) (k0 .ge (p2 oIald (p1 (oGf 6 12 3) (pL 3 0)) (pL 1 4))))) (c0 .ne (eCall 143 [(eP (pL 3 0)), (eP (p2 oIald (p1 (oGf 6 12 3) (pL 3 0)) (pL 1 3))), (eP (p2 oIald (p1 (oGf 6 12 3) (pL 3 0)) (pL 1 4)))])))
  (sCall 169 [(eP (pL 3 0)), (eP (p2 oIald (p1 (oGf 6 16 3) (pL 3 0)) (pL 1 3)))]))
  (sSt 1 4 (eP (p2 oIald (p1 (oGf 6 15 3) (pL 3 0)) (pL 1 4)))))))
  (sCall 172 [(eP (pL 3 0)), (eP (pL 1 3)), (eP (p2 oIald (p1 (oGf 6 12 3) (pL 3 0)) (pL 1 3)))]))))
  (sSt 1 3 (eP (p2 oIald (p1 (oGf 6 15 3) (pL 3 0)) (pL 1 3))))))))
  sRet0)
theorem k_173 : b_173.1.1 x_173 (0, true, []) = some ((119, false, []), [], []) := by decide +kernel
/-- LazyFormsModel.atomCost -/
def i_174 : List (Nat × Instr × Nat) := [(0, .aload_n 0, 1), (1, .getfield 80, 3), (4, .iload_n 1, 1), (5, .iaload, 1), (6, .iconst 2, 1), (7, .if_icmp .ne 7, 3), (10, .iconst 0, 1), (11, .goto 9, 3), (14, .aload_n 0, 1), (15, .getfield 101, 3), (18, .iload_n 1, 1), (19, .iaload, 1), (20, .ireturn, 1)]
def x_174 : zCx := (6, false, 1, zCode i_174, [])
def b_174 : zS := (sRet 1 (eP (pIte (kI .eq (p2 oIald (p1 (oGf 6 11 3) (pL 3 0)) (pL 1 1)) (pI 2)) (pI 0) (p2 oIald (p1 (oGf 6 18 3) (pL 3 0)) (pL 1 1)))))
theorem k_174 : b_174.1.1 x_174 (0, true, []) = some ((21, false, []), [], []) := by decide +kernel
/-- LazyFormsModel.atoms -/
def i_175 : List (Nat × Instr × Nat) := [(0, .iconst 0, 1), (1, .istore_n 2, 1), (2, .iconst 0, 1), (3, .istore_n 3, 1), (4, .iconst 0, 1), (5, .istore 4, 2), (7, .iload_n 1, 1), (8, .istore 5, 2), (10, .iload 5, 2), (12, .ifCond .lt 77, 3), (15, .iinc 3 1, 3), (18, .iload_n 3, 1), (19, .bipush 6, 2), (21, .if_icmp .le 14, 3), (24, .aload_n 0, 1), (25, .aload_n 0, 1), (26, .getfield 95, 3), (29, .iload 5, 2), (31, .iaload, 1), (32, .invokevirtual 217, 3), (35, .aload_n 0, 1), (36, .aload_n 0, 1), (37, .getfield 83, 3), (40, .iload 5, 2), (42, .iaload, 1), (43, .invokevirtual 227, 3), (46, .iload_n 2, 1), (47, .aload_n 0, 1), (48, .getfield 98, 3), (51, .aload_n 0, 1), (52, .getfield 83, 3), (55, .iload 5, 2), (57, .iaload, 1), (58, .iaload, 1), (59, .ior, 1), (60, .istore_n 2, 1), (61, .iload 4, 2), (63, .aload_n 0, 1), (64, .aload_n 0, 1), (65, .getfield 83, 3), (68, .iload 5, 2), (70, .iaload, 1), (71, .invokevirtual 230, 3), (74, .iadd, 1), (75, .istore 4, 2), (77, .aload_n 0, 1), (78, .getfield 92, 3), (81, .iload 5, 2), (83, .iaload, 1), (84, .istore 5, 2), (86, .goto (-76), 3), (89, .aload_n 0, 1), (90, .iload 4, 2), (92, .putfield 233, 3), (95, .iload_n 2, 1), (96, .ireturn, 1)]
def x_175 : zCx := (6, false, 1, zCode i_175, [])
def b_175 : zS := (sSeq (sSt 1 2 (eP (pI 0)))
  (sSeq (sSt 1 3 (eP (pI 0)))
  (sSeq (sSt 1 4 (eP (pI 0)))
  (sSeq (sBlk 5 (sSeq (sSt 1 5 (eP (pL 1 1)))
  (sWh (cP (k0 .ge (pL 1 5)))
  (sSeq (sInc 3 1)
  (sSeq (sIf (cP (kI .gt (pL 1 3) (pI 6)))
  (sCall 169 [(eP (pL 3 0)), (eP (p2 oIald (p1 (oGf 6 16 3) (pL 3 0)) (pL 1 5)))]))
  (sSeq (sCall 176 [(eP (pL 3 0)), (eP (p2 oIald (p1 (oGf 6 12 3) (pL 3 0)) (pL 1 5)))])
  (sSeq (sSt 1 2 (eP (p2 oOr (pL 1 2) (p2 oIald (p1 (oGf 6 17 3) (pL 3 0)) (p2 oIald (p1 (oGf 6 12 3) (pL 3 0)) (pL 1 5))))))
  (sSt 1 4 (e2 oAdd (eP (pL 1 4)) (eCall 174 [(eP (pL 3 0)), (eP (p2 oIald (p1 (oGf 6 12 3) (pL 3 0)) (pL 1 5)))])))))))
  (sSt 1 5 (eP (p2 oIald (p1 (oGf 6 15 3) (pL 3 0)) (pL 1 5)))))))
  (sSeq (sPf (eP (pL 3 0)) 6 34 1 (eP (pL 1 4)))
  (sRet 1 (eP (pL 1 2))))))))
theorem k_175 : b_175.1.1 x_175 (0, true, []) = some ((97, false, []), [], []) := by decide +kernel
/-- LazyFormsModel.resolve -/
def i_176 : List (Nat × Instr × Nat) := [(0, .aload_n 0, 1), (1, .getfield 101, 3), (4, .iload_n 1, 1), (5, .iconst 1, 1), (6, .iastore, 1), (7, .aload_n 0, 1), (8, .getfield 80, 3), (11, .iload_n 1, 1), (12, .iaload, 1), (13, .tableswitch 137 0 6 #[43, 53, 97, 105, 113, 121, 129], 43), (56, .aload_n 0, 1), (57, .getfield 101, 3), (60, .iload_n 1, 1), (61, .iconst 0, 1), (62, .iastore, 1), (63, .goto 135, 3), (66, .aload_n 0, 1), (67, .getfield 98, 3), (70, .iload_n 1, 1), (71, .aload_n 0, 1), (72, .aload_n 0, 1), (73, .getfield 86, 3), (76, .iload_n 1, 1), (77, .iaload, 1), (78, .invokevirtual 236, 3), (81, .iastore, 1), (82, .aload_n 0, 1), (83, .getfield 101, 3), (86, .iload_n 1, 1), (87, .aload_n 0, 1), (88, .getfield 86, 3), (91, .iload_n 1, 1), (92, .iaload, 1), (93, .ifCond .ge 7, 3), (96, .iconst 0, 1), (97, .goto 9, 3), (100, .iconst 1, 1), (101, .aload_n 0, 1), (102, .getfield 233, 3), (105, .iadd, 1), (106, .iastore, 1), (107, .goto 91, 3), (110, .aload_n 0, 1), (111, .iload_n 1, 1), (112, .invokevirtual 239, 3), (115, .goto 83, 3), (118, .aload_n 0, 1), (119, .iload_n 1, 1), (120, .invokevirtual 242, 3), (123, .goto 75, 3), (126, .aload_n 0, 1), (127, .iload_n 1, 1), (128, .invokevirtual 245, 3), (131, .goto 67, 3), (134, .aload_n 0, 1), (135, .iload_n 1, 1), (136, .invokevirtual 248, 3), (139, .goto 59, 3), (142, .aload_n 0, 1), (143, .iload_n 1, 1), (144, .invokevirtual 251, 3), (147, .goto 51, 3), (150, .aload_n 0, 1), (151, .aload_n 0, 1), (152, .getfield 83, 3), (155, .iload_n 1, 1), (156, .iaload, 1), (157, .invokevirtual 227, 3), (160, .aload_n 0, 1), (161, .getfield 98, 3), (164, .iload_n 1, 1), (165, .aload_n 0, 1), (166, .aload_n 0, 1), (167, .getfield 86, 3), (170, .iload_n 1, 1), (171, .iaload, 1), (172, .invokevirtual 236, 3), (175, .aload_n 0, 1), (176, .getfield 98, 3), (179, .aload_n 0, 1), (180, .getfield 83, 3), (183, .iload_n 1, 1), (184, .iaload, 1), (185, .iaload, 1), (186, .ior, 1), (187, .iastore, 1), (188, .aload_n 0, 1), (189, .getfield 89, 3), (192, .iload_n 1, 1), (193, .aload_n 0, 1), (194, .getfield 233, 3), (197, .iastore, 1), (198, .return_, 1)]
def x_176 : zCx := (6, false, 0, zCode i_176, [])
def b_176 : zS := (sSeq (sSeq (sSe 1 (eP (p1 (oGf 6 18 3) (pL 3 0))) (eP (pL 1 1)) (eP (pI 1)))
  (sSw (eP (p2 oIald (p1 (oGf 6 11 3) (pL 3 0)) (pL 1 1))) [(0, 0), (1, 1), (2, 2), (3, 3), (4, 4), (5, 5), (6, 6)] 7 [(sSeq (sSe 1 (eP (p1 (oGf 6 18 3) (pL 3 0))) (eP (pL 1 1)) (eP (pI 0)))
  (sBrk true)),
  (sSeq (sSe 1 (eP (p1 (oGf 6 17 3) (pL 3 0))) (eP (pL 1 1)) (eCall 175 [(eP (pL 3 0)), (eP (p2 oIald (p1 (oGf 6 13 3) (pL 3 0)) (pL 1 1)))]))
  (sSeq (sSe 1 (eP (p1 (oGf 6 18 3) (pL 3 0))) (eP (pL 1 1)) (eP (pIte (k0 .lt (p2 oIald (p1 (oGf 6 13 3) (pL 3 0)) (pL 1 1))) (pI 0) (p2 oAdd (pI 1) (p1 (oGf 6 34 1) (pL 3 0))))))
  (sBrk true))),
  (sSeq (sCall 177 [(eP (pL 3 0)), (eP (pL 1 1))])
  (sBrk true)),
  (sSeq (sCall 178 [(eP (pL 3 0)), (eP (pL 1 1))])
  (sBrk true)),
  (sSeq (sCall 179 [(eP (pL 3 0)), (eP (pL 1 1))])
  (sBrk true)),
  (sSeq (sCall 180 [(eP (pL 3 0)), (eP (pL 1 1))])
  (sBrk true)),
  (sSeq (sCall 181 [(eP (pL 3 0)), (eP (pL 1 1))])
  (sBrk true)),
  (sSeq (sCall 176 [(eP (pL 3 0)), (eP (p2 oIald (p1 (oGf 6 12 3) (pL 3 0)) (pL 1 1)))])
  (sSeq (sSe 1 (eP (p1 (oGf 6 17 3) (pL 3 0))) (eP (pL 1 1)) (e2 oOr (eCall 175 [(eP (pL 3 0)), (eP (p2 oIald (p1 (oGf 6 13 3) (pL 3 0)) (pL 1 1)))]) (eP (p2 oIald (p1 (oGf 6 17 3) (pL 3 0)) (p2 oIald (p1 (oGf 6 12 3) (pL 3 0)) (pL 1 1))))))
  (sSeq (sSe 1 (eP (p1 (oGf 6 14 3) (pL 3 0))) (eP (pL 1 1)) (eP (p1 (oGf 6 34 1) (pL 3 0))))
  (sBrk false))))]))
  sRet0)
theorem k_176 : b_176.1.1 x_176 (0, true, []) = some ((199, false, []), [], []) := by decide +kernel
/-- LazyFormsModel.resolveName -/
def i_177 : List (Nat × Instr × Nat) := [(0, .aload_n 0, 1), (1, .getfield 211, 3), (4, .iload_n 1, 1), (5, .iconst (-1), 1), (6, .iastore, 1), (7, .iconst 0, 1), (8, .istore_n 2, 1), (9, .iload_n 2, 1), (10, .aload_n 0, 1), (11, .getfield 214, 3), (14, .if_icmp .ge 35, 3), (17, .aload_n 0, 1), (18, .aload_n 0, 1), (19, .getfield 220, 3), (22, .iload_n 2, 1), (23, .iaload, 1), (24, .aload_n 0, 1), (25, .getfield 83, 3), (28, .iload_n 1, 1), (29, .iaload, 1), (30, .invokevirtual 207, 3), (33, .ifCond .eq 10, 3), (36, .aload_n 0, 1), (37, .getfield 211, 3), (40, .iload_n 1, 1), (41, .iload_n 2, 1), (42, .iastore, 1), (43, .iinc 2 1, 3), (46, .goto (-37), 3), (49, .aload_n 0, 1), (50, .getfield 89, 3), (53, .iload_n 1, 1), (54, .aload_n 0, 1), (55, .getfield 211, 3), (58, .iload_n 1, 1), (59, .iaload, 1), (60, .ifCond .ge 16, 3), (63, .aload_n 0, 1), (64, .aload_n 0, 1), (65, .getfield 83, 3), (68, .iload_n 1, 1), (69, .iaload, 1), (70, .invokevirtual 254, 3), (73, .goto 4, 3), (76, .iconst (-1), 1), (77, .iastore, 1), (78, .aload_n 0, 1), (79, .getfield 211, 3), (82, .iload_n 1, 1), (83, .iaload, 1), (84, .ifCond .ge 22, 3), (87, .aload_n 0, 1), (88, .getfield 89, 3), (91, .iload_n 1, 1), (92, .iaload, 1), (93, .ifCond .ge 13, 3), (96, .aload_n 0, 1), (97, .aload_n 0, 1), (98, .getfield 95, 3), (101, .iload_n 1, 1), (102, .iaload, 1), (103, .invokevirtual 217, 3), (106, .aload_n 0, 1), (107, .getfield 98, 3), (110, .iload_n 1, 1), (111, .aload_n 0, 1), (112, .getfield 211, 3), (115, .iload_n 1, 1), (116, .iaload, 1), (117, .iconst 0, 1), (118, .bipush 15, 2), (120, .invokestatic 257, 3), (123, .ifCond .eq 14, 3), (126, .iconst 1, 1), (127, .aload_n 0, 1), (128, .getfield 211, 3), (131, .iload_n 1, 1), (132, .iaload, 1), (133, .ishl, 1), (134, .goto 4, 3), (137, .iconst 0, 1), (138, .iastore, 1), (139, .return_, 1)]
def x_177 : zCx := (6, false, 0, zCode i_177, [])
def b_177 : zS := (sSeq (sSeq (sSe 1 (eP (p1 (oGf 6 25 3) (pL 3 0))) (eP (pL 1 1)) (eP (pI (-1))))
  (sSeq (sBlk 2 (sSeq (sSt 1 2 (eP (pI 0)))
  (sWh (cP (kI .lt (pL 1 2) (p1 (oGf 6 27 1) (pL 3 0))))
  (sIf (c0 .ne (eCall 143 [(eP (pL 3 0)), (eP (p2 oIald (p1 (oGf 6 28 3) (pL 3 0)) (pL 1 2))), (eP (p2 oIald (p1 (oGf 6 12 3) (pL 3 0)) (pL 1 1)))]))
  (sSe 1 (eP (p1 (oGf 6 25 3) (pL 3 0))) (eP (pL 1 1)) (eP (pL 1 2))))
  (sInc 2 1))))
  (sSeq (sSe 1 (eP (p1 (oGf 6 14 3) (pL 3 0))) (eP (pL 1 1)) (eIte (cP (k0 .lt (p2 oIald (p1 (oGf 6 25 3) (pL 3 0)) (pL 1 1)))) (eCall 171 [(eP (pL 3 0)), (eP (p2 oIald (p1 (oGf 6 12 3) (pL 3 0)) (pL 1 1)))]) (eP (pI (-1)))))
  (sSeq (sIf (cP (kAnd (k0 .lt (p2 oIald (p1 (oGf 6 25 3) (pL 3 0)) (pL 1 1))) (k0 .lt (p2 oIald (p1 (oGf 6 14 3) (pL 3 0)) (pL 1 1)))))
  (sCall 169 [(eP (pL 3 0)), (eP (p2 oIald (p1 (oGf 6 16 3) (pL 3 0)) (pL 1 1)))]))
  (sSe 1 (eP (p1 (oGf 6 17 3) (pL 3 0))) (eP (pL 1 1)) (eIte (c0 .ne (eCall 130 [(eP (p2 oIald (p1 (oGf 6 25 3) (pL 3 0)) (pL 1 1))), (eP (pI 0)), (eP (pI 15))])) (eP (p2 oShl (pI 1) (p2 oIald (p1 (oGf 6 25 3) (pL 3 0)) (pL 1 1)))) (eP (pI 0))))))))
  sRet0)
theorem k_177 : b_177.1.1 x_177 (0, true, []) = some ((140, false, []), [], []) := by decide +kernel
/-- LazyFormsModel.resolveFunction -/
def i_178 : List (Nat × Instr × Nat) := [(0, .aload_n 0, 1), (1, .getfield 214, 3), (4, .istore_n 2, 1), (5, .aload_n 0, 1), (6, .aload_n 0, 1), (7, .getfield 83, 3), (10, .iload_n 1, 1), (11, .iaload, 1), (12, .invokevirtual 261, 3), (15, .aload_n 0, 1), (16, .aload_n 0, 1), (17, .getfield 86, 3), (20, .iload_n 1, 1), (21, .iaload, 1), (22, .invokevirtual 227, 3), (25, .aload_n 0, 1), (26, .iload_n 2, 1), (27, .putfield 214, 3), (30, .aload_n 0, 1), (31, .getfield 98, 3), (34, .iload_n 1, 1), (35, .aload_n 0, 1), (36, .getfield 98, 3), (39, .aload_n 0, 1), (40, .getfield 86, 3), (43, .iload_n 1, 1), (44, .iaload, 1), (45, .iaload, 1), (46, .iload_n 2, 1), (47, .invokestatic 264, 3), (50, .iand, 1), (51, .iastore, 1), (52, .return_, 1)]
def x_178 : zCx := (6, false, 0, zCode i_178, [])
def b_178 : zS := (sSeq (sSeq (sSt 1 2 (eP (p1 (oGf 6 27 1) (pL 3 0))))
  (sSeq (sCall 173 [(eP (pL 3 0)), (eP (p2 oIald (p1 (oGf 6 12 3) (pL 3 0)) (pL 1 1)))])
  (sSeq (sCall 176 [(eP (pL 3 0)), (eP (p2 oIald (p1 (oGf 6 13 3) (pL 3 0)) (pL 1 1)))])
  (sSeq (sPf (eP (pL 3 0)) 6 27 1 (eP (pL 1 2)))
  (sSe 1 (eP (p1 (oGf 6 17 3) (pL 3 0))) (eP (pL 1 1)) (e2 oAnd (eP (p2 oIald (p1 (oGf 6 17 3) (pL 3 0)) (p2 oIald (p1 (oGf 6 13 3) (pL 3 0)) (pL 1 1)))) (eCall 170 [(eP (pL 1 2))])))))))
  sRet0)
theorem k_178 : b_178.1.1 x_178 (0, true, []) = some ((53, false, []), [], []) := by decide +kernel
/-- LazyFormsModel.resolveLet -/
def i_179 : List (Nat × Instr × Nat) := [(0, .aload_n 0, 1), (1, .getfield 214, 3), (4, .istore_n 2, 1), (5, .iconst 0, 1), (6, .istore_n 3, 1), (7, .aload_n 0, 1), (8, .getfield 83, 3), (11, .iload_n 1, 1), (12, .iaload, 1), (13, .istore 4, 2), (15, .iload 4, 2), (17, .ifCond .lt 107, 3), (20, .iinc 3 1, 3), (23, .iload_n 3, 1), (24, .bipush 6, 2), (26, .if_icmp .le 14, 3), (29, .aload_n 0, 1), (30, .aload_n 0, 1), (31, .getfield 95, 3), (34, .iload 4, 2), (36, .iaload, 1), (37, .invokevirtual 217, 3), (40, .aload_n 0, 1), (41, .getfield 83, 3), (44, .iload_n 1, 1), (45, .iaload, 1), (46, .istore 5, 2), (48, .iload 5, 2), (50, .iload 4, 2), (52, .if_icmp .eq 47, 3), (55, .aload_n 0, 1), (56, .aload_n 0, 1), (57, .getfield 83, 3), (60, .iload 4, 2), (62, .iaload, 1), (63, .aload_n 0, 1), (64, .getfield 83, 3), (67, .iload 5, 2), (69, .iaload, 1), (70, .invokevirtual 207, 3), (73, .ifCond .eq 14, 3), (76, .aload_n 0, 1), (77, .aload_n 0, 1), (78, .getfield 95, 3), (81, .iload 4, 2), (83, .iaload, 1), (84, .invokevirtual 217, 3), (87, .aload_n 0, 1), (88, .getfield 92, 3), (91, .iload 5, 2), (93, .iaload, 1), (94, .istore 5, 2), (96, .goto (-48), 3), (99, .aload_n 0, 1), (100, .iload 4, 2), (102, .aload_n 0, 1), (103, .getfield 83, 3), (106, .iload 4, 2), (108, .iaload, 1), (109, .invokevirtual 223, 3), (112, .aload_n 0, 1), (113, .getfield 92, 3), (116, .iload 4, 2), (118, .iaload, 1), (119, .istore 4, 2), (121, .goto (-106), 3), (124, .iconst 0, 1), (125, .istore 4, 2), (127, .iconst 0, 1), (128, .istore 5, 2), (130, .aload_n 0, 1), (131, .getfield 83, 3), (134, .iload_n 1, 1), (135, .iaload, 1), (136, .istore 6, 2), (138, .iload 6, 2), (140, .ifCond .lt 131, 3), (143, .aload_n 0, 1), (144, .getfield 214, 3), (147, .istore 7, 2), (149, .aload_n 0, 1), (150, .aload_n 0, 1), (151, .getfield 86, 3), (154, .iload 6, 2), (156, .iaload, 1), (157, .invokevirtual 261, 3), (160, .aload_n 0, 1), (161, .aload_n 0, 1), (162, .getfield 89, 3), (165, .iload 6, 2), (167, .iaload, 1), (168, .invokevirtual 227, 3), (171, .aload_n 0, 1), (172, .iload 7, 2), (174, .putfield 214, 3), (177, .aload_n 0, 1), (178, .getfield 98, 3), (181, .iload 6, 2), (183, .aload_n 0, 1), (184, .getfield 98, 3), (187, .aload_n 0, 1), (188, .getfield 89, 3), (191, .iload 6, 2), (193, .iaload, 1), (194, .iaload, 1), (195, .iload 7, 2), (197, .invokestatic 264, 3), (200, .iand, 1), (201, .iastore, 1), (202, .aload_n 0, 1), (203, .getfield 101, 3), (206, .iload 6, 2), (208, .aload_n 0, 1), (209, .getfield 86, 3), (212, .iload 6, 2), (214, .iaload, 1), (215, .ifCond .lt 7, 3), (218, .iconst 1, 1), (219, .goto 15, 3), (222, .aload_n 0, 1), (223, .getfield 101, 3), (226, .aload_n 0, 1), (227, .getfield 89, 3), (230, .iload 6, 2), (232, .iaload, 1), (233, .iaload, 1), (234, .iastore, 1), (235, .iload 4, 2), (237, .aload_n 0, 1), (238, .getfield 98, 3), (241, .iload 6, 2), (243, .iaload, 1), (244, .ior, 1), (245, .istore 4, 2), (247, .iload 5, 2), (249, .aload_n 0, 1), (250, .getfield 101, 3), (253, .iload 6, 2), (255, .iaload, 1), (256, .iadd, 1), (257, .istore 5, 2), (259, .aload_n 0, 1), (260, .getfield 92, 3), (263, .iload 6, 2), (265, .iaload, 1), (266, .istore 6, 2), (268, .goto (-130), 3), (271, .aload_n 0, 1), (272, .aload_n 0, 1), (273, .getfield 86, 3), (276, .iload_n 1, 1), (277, .iaload, 1), (278, .invokevirtual 227, 3), (281, .aload_n 0, 1), (282, .iload_n 2, 1), (283, .putfield 214, 3), (286, .aload_n 0, 1), (287, .getfield 98, 3), (290, .iload_n 1, 1), (291, .iload 4, 2), (293, .aload_n 0, 1), (294, .getfield 98, 3), (297, .aload_n 0, 1), (298, .getfield 86, 3), (301, .iload_n 1, 1), (302, .iaload, 1), (303, .iaload, 1), (304, .ior, 1), (305, .iload_n 2, 1), (306, .invokestatic 264, 3), (309, .iand, 1), (310, .iastore, 1), (311, .aload_n 0, 1), (312, .getfield 89, 3), (315, .iload_n 1, 1), (316, .iload 5, 2), (318, .iastore, 1), (319, .aload_n 0, 1), (320, .getfield 101, 3), (323, .iload_n 1, 1), (324, .iconst 1, 1), (325, .iastore, 1), (326, .return_, 1)]
def x_179 : zCx := (6, false, 0, zCode i_179, [])
def b_179 : zS := (sSeq (sSeq (sSt 1 2 (eP (p1 (oGf 6 27 1) (pL 3 0))))
  (sSeq (sSt 1 3 (eP (pI 0)))
  (sSeq (sBlk 4 (sSeq (sSt 1 4 (eP (p2 oIald (p1 (oGf 6 12 3) (pL 3 0)) (pL 1 1))))
  (sWh (cP (k0 .ge (pL 1 4)))
  (sSeq (sInc 3 1)
  (sSeq (sIf (cP (kI .gt (pL 1 3) (pI 6)))
  (sCall 169 [(eP (pL 3 0)), (eP (p2 oIald (p1 (oGf 6 16 3) (pL 3 0)) (pL 1 4)))]))
  (sSeq (sBlk 5 (sSeq (sSt 1 5 (eP (p2 oIald (p1 (oGf 6 12 3) (pL 3 0)) (pL 1 1))))
  (sWh (cP (kI .ne (pL 1 5) (pL 1 4)))
  (sIf (c0 .ne (eCall 143 [(eP (pL 3 0)), (eP (p2 oIald (p1 (oGf 6 12 3) (pL 3 0)) (pL 1 4))), (eP (p2 oIald (p1 (oGf 6 12 3) (pL 3 0)) (pL 1 5)))]))
  (sCall 169 [(eP (pL 3 0)), (eP (p2 oIald (p1 (oGf 6 16 3) (pL 3 0)) (pL 1 4)))]))
  (sSt 1 5 (eP (p2 oIald (p1 (oGf 6 15 3) (pL 3 0)) (pL 1 5)))))))
  (sCall 172 [(eP (pL 3 0)), (eP (pL 1 4)), (eP (p2 oIald (p1 (oGf 6 12 3) (pL 3 0)) (pL 1 4)))]))))
  (sSt 1 4 (eP (p2 oIald (p1 (oGf 6 15 3) (pL 3 0)) (pL 1 4)))))))
  (sSeq (sSt 1 4 (eP (pI 0)))
  (sSeq (sSt 1 5 (eP (pI 0)))
  (sSeq (sBlk 6 (sSeq (sSt 1 6 (eP (p2 oIald (p1 (oGf 6 12 3) (pL 3 0)) (pL 1 1))))
  (sWh (cP (k0 .ge (pL 1 6)))
  (sBlk 7 (sSeq (sSt 1 7 (eP (p1 (oGf 6 27 1) (pL 3 0))))
  (sSeq (sCall 173 [(eP (pL 3 0)), (eP (p2 oIald (p1 (oGf 6 13 3) (pL 3 0)) (pL 1 6)))])
  (sSeq (sCall 176 [(eP (pL 3 0)), (eP (p2 oIald (p1 (oGf 6 14 3) (pL 3 0)) (pL 1 6)))])
  (sSeq (sPf (eP (pL 3 0)) 6 27 1 (eP (pL 1 7)))
  (sSeq (sSe 1 (eP (p1 (oGf 6 17 3) (pL 3 0))) (eP (pL 1 6)) (e2 oAnd (eP (p2 oIald (p1 (oGf 6 17 3) (pL 3 0)) (p2 oIald (p1 (oGf 6 14 3) (pL 3 0)) (pL 1 6)))) (eCall 170 [(eP (pL 1 7))])))
  (sSeq (sSe 1 (eP (p1 (oGf 6 18 3) (pL 3 0))) (eP (pL 1 6)) (eP (pIte (k0 .ge (p2 oIald (p1 (oGf 6 13 3) (pL 3 0)) (pL 1 6))) (pI 1) (p2 oIald (p1 (oGf 6 18 3) (pL 3 0)) (p2 oIald (p1 (oGf 6 14 3) (pL 3 0)) (pL 1 6))))))
  (sSeq (sSt 1 4 (eP (p2 oOr (pL 1 4) (p2 oIald (p1 (oGf 6 17 3) (pL 3 0)) (pL 1 6)))))
  (sSt 1 5 (eP (p2 oAdd (pL 1 5) (p2 oIald (p1 (oGf 6 18 3) (pL 3 0)) (pL 1 6)))))))))))))
  (sSt 1 6 (eP (p2 oIald (p1 (oGf 6 15 3) (pL 3 0)) (pL 1 6)))))))
  (sSeq (sCall 176 [(eP (pL 3 0)), (eP (p2 oIald (p1 (oGf 6 13 3) (pL 3 0)) (pL 1 1)))])
  (sSeq (sPf (eP (pL 3 0)) 6 27 1 (eP (pL 1 2)))
  (sSeq (sSe 1 (eP (p1 (oGf 6 17 3) (pL 3 0))) (eP (pL 1 1)) (e2 oAnd (eP (p2 oOr (pL 1 4) (p2 oIald (p1 (oGf 6 17 3) (pL 3 0)) (p2 oIald (p1 (oGf 6 13 3) (pL 3 0)) (pL 1 1))))) (eCall 170 [(eP (pL 1 2))])))
  (sSeq (sSe 1 (eP (p1 (oGf 6 14 3) (pL 3 0))) (eP (pL 1 1)) (eP (pL 1 5)))
  (sSe 1 (eP (p1 (oGf 6 18 3) (pL 3 0))) (eP (pL 1 1)) (eP (pI 1)))))))))))))
  sRet0)
theorem k_179 : b_179.1.1 x_179 (0, true, []) = some ((327, false, []), [], []) := by decide +kernel
/-- LazyFormsModel.resolveCase -/
def i_180 : List (Nat × Instr × Nat) := [(0, .aload_n 0, 1), (1, .aload_n 0, 1), (2, .getfield 83, 3), (5, .iload_n 1, 1), (6, .iaload, 1), (7, .invokevirtual 227, 3), (10, .iconst 0, 1), (11, .istore_n 2, 1), (12, .iconst 0, 1), (13, .istore_n 3, 1), (14, .aload_n 0, 1), (15, .getfield 86, 3), (18, .iload_n 1, 1), (19, .iaload, 1), (20, .istore 4, 2), (22, .iload 4, 2), (24, .ifCond .lt 104, 3), (27, .iinc 3 1, 3), (30, .iload_n 3, 1), (31, .bipush 8, 2), (33, .if_icmp .le 14, 3), (36, .aload_n 0, 1), (37, .aload_n 0, 1), (38, .getfield 95, 3), (41, .iload 4, 2), (43, .iaload, 1), (44, .invokevirtual 217, 3), (47, .aload_n 0, 1), (48, .getfield 214, 3), (51, .istore 5, 2), (53, .aload_n 0, 1), (54, .aload_n 0, 1), (55, .getfield 86, 3), (58, .iload 4, 2), (60, .iaload, 1), (61, .invokevirtual 261, 3), (64, .aload_n 0, 1), (65, .aload_n 0, 1), (66, .getfield 89, 3), (69, .iload 4, 2), (71, .iaload, 1), (72, .invokevirtual 227, 3), (75, .aload_n 0, 1), (76, .iload 5, 2), (78, .putfield 214, 3), (81, .aload_n 0, 1), (82, .getfield 98, 3), (85, .iload 4, 2), (87, .aload_n 0, 1), (88, .getfield 98, 3), (91, .aload_n 0, 1), (92, .getfield 89, 3), (95, .iload 4, 2), (97, .iaload, 1), (98, .iaload, 1), (99, .iload 5, 2), (101, .invokestatic 264, 3), (104, .iand, 1), (105, .iastore, 1), (106, .iload_n 2, 1), (107, .aload_n 0, 1), (108, .getfield 98, 3), (111, .iload 4, 2), (113, .iaload, 1), (114, .ior, 1), (115, .istore_n 2, 1), (116, .aload_n 0, 1), (117, .getfield 92, 3), (120, .iload 4, 2), (122, .iaload, 1), (123, .istore 4, 2), (125, .goto (-103), 3), (128, .aload_n 0, 1), (129, .getfield 89, 3), (132, .iload_n 1, 1), (133, .iload_n 2, 1), (134, .iastore, 1), (135, .aload_n 0, 1), (136, .getfield 98, 3), (139, .iload_n 1, 1), (140, .aload_n 0, 1), (141, .getfield 98, 3), (144, .aload_n 0, 1), (145, .getfield 83, 3), (148, .iload_n 1, 1), (149, .iaload, 1), (150, .iaload, 1), (151, .iload_n 2, 1), (152, .ior, 1), (153, .iastore, 1), (154, .return_, 1)]
def x_180 : zCx := (6, false, 0, zCode i_180, [])
def b_180 : zS := (sSeq (sSeq (sCall 176 [(eP (pL 3 0)), (eP (p2 oIald (p1 (oGf 6 12 3) (pL 3 0)) (pL 1 1)))])
  (sSeq (sSt 1 2 (eP (pI 0)))
  (sSeq (sSt 1 3 (eP (pI 0)))
  (sSeq (sBlk 4 (sSeq (sSt 1 4 (eP (p2 oIald (p1 (oGf 6 13 3) (pL 3 0)) (pL 1 1))))
  (sWh (cP (k0 .ge (pL 1 4)))
  (sBlk 5 (sSeq (sInc 3 1)
  (sSeq (sIf (cP (kI .gt (pL 1 3) (pI 8)))
  (sCall 169 [(eP (pL 3 0)), (eP (p2 oIald (p1 (oGf 6 16 3) (pL 3 0)) (pL 1 4)))]))
  (sSeq (sSt 1 5 (eP (p1 (oGf 6 27 1) (pL 3 0))))
  (sSeq (sCall 173 [(eP (pL 3 0)), (eP (p2 oIald (p1 (oGf 6 13 3) (pL 3 0)) (pL 1 4)))])
  (sSeq (sCall 176 [(eP (pL 3 0)), (eP (p2 oIald (p1 (oGf 6 14 3) (pL 3 0)) (pL 1 4)))])
  (sSeq (sPf (eP (pL 3 0)) 6 27 1 (eP (pL 1 5)))
  (sSeq (sSe 1 (eP (p1 (oGf 6 17 3) (pL 3 0))) (eP (pL 1 4)) (e2 oAnd (eP (p2 oIald (p1 (oGf 6 17 3) (pL 3 0)) (p2 oIald (p1 (oGf 6 14 3) (pL 3 0)) (pL 1 4)))) (eCall 170 [(eP (pL 1 5))])))
  (sSt 1 2 (eP (p2 oOr (pL 1 2) (p2 oIald (p1 (oGf 6 17 3) (pL 3 0)) (pL 1 4)))))))))))))
  (sSt 1 4 (eP (p2 oIald (p1 (oGf 6 15 3) (pL 3 0)) (pL 1 4)))))))
  (sSeq (sSe 1 (eP (p1 (oGf 6 14 3) (pL 3 0))) (eP (pL 1 1)) (eP (pL 1 2)))
  (sSe 1 (eP (p1 (oGf 6 17 3) (pL 3 0))) (eP (pL 1 1)) (eP (p2 oOr (p2 oIald (p1 (oGf 6 17 3) (pL 3 0)) (p2 oIald (p1 (oGf 6 12 3) (pL 3 0)) (pL 1 1))) (pL 1 2)))))))))
  sRet0)
theorem k_180 : b_180.1.1 x_180 (0, true, []) = some ((155, false, []), [], []) := by decide +kernel
/-- LazyFormsModel.resolveTwo -/
def i_181 : List (Nat × Instr × Nat) := [(0, .aload_n 0, 1), (1, .getfield 267, 3), (4, .istore_n 2, 1), (5, .iload_n 1, 1), (6, .istore_n 3, 1), (7, .aload_n 0, 1), (8, .getfield 80, 3), (11, .iload_n 3, 1), (12, .iaload, 1), (13, .bipush 6, 2), (15, .if_icmp .ne 33, 3), (18, .aload_n 0, 1), (19, .getfield 270, 3), (22, .aload_n 0, 1), (23, .getfield 267, 3), (26, .iload_n 3, 1), (27, .iastore, 1), (28, .aload_n 0, 1), (29, .dup, 1), (30, .getfield 267, 3), (33, .iconst 1, 1), (34, .iadd, 1), (35, .putfield 267, 3), (38, .aload_n 0, 1), (39, .getfield 83, 3), (42, .iload_n 3, 1), (43, .iaload, 1), (44, .istore_n 3, 1), (45, .goto (-38), 3), (48, .aload_n 0, 1), (49, .iload_n 3, 1), (50, .invokevirtual 227, 3), (53, .aload_n 0, 1), (54, .getfield 267, 3), (57, .iload_n 2, 1), (58, .if_icmp .le 78, 3), (61, .aload_n 0, 1), (62, .dup, 1), (63, .getfield 267, 3), (66, .iconst 1, 1), (67, .isub, 1), (68, .putfield 267, 3), (71, .aload_n 0, 1), (72, .getfield 270, 3), (75, .aload_n 0, 1), (76, .getfield 267, 3), (79, .iaload, 1), (80, .istore 4, 2), (82, .aload_n 0, 1), (83, .aload_n 0, 1), (84, .getfield 86, 3), (87, .iload 4, 2), (89, .iaload, 1), (90, .invokevirtual 227, 3), (93, .aload_n 0, 1), (94, .getfield 98, 3), (97, .iload 4, 2), (99, .aload_n 0, 1), (100, .getfield 98, 3), (103, .aload_n 0, 1), (104, .getfield 83, 3), (107, .iload 4, 2), (109, .iaload, 1), (110, .iaload, 1), (111, .aload_n 0, 1), (112, .getfield 98, 3), (115, .aload_n 0, 1), (116, .getfield 86, 3), (119, .iload 4, 2), (121, .iaload, 1), (122, .iaload, 1), (123, .ior, 1), (124, .iastore, 1), (125, .aload_n 0, 1), (126, .getfield 101, 3), (129, .iload 4, 2), (131, .iconst 1, 1), (132, .iastore, 1), (133, .goto (-80), 3), (136, .return_, 1)]
def x_181 : zCx := (6, false, 0, zCode i_181, [])
def b_181 : zS := (sSeq (sSeq (sSt 1 2 (eP (p1 (oGf 6 29 1) (pL 3 0))))
  (sSeq (sSt 1 3 (eP (pL 1 1)))
  (sSeq (sWh (cP (kI .eq (p2 oIald (p1 (oGf 6 11 3) (pL 3 0)) (pL 1 3)) (pI 6)))
  (sSeq (sSe 1 (eP (p1 (oGf 6 30 3) (pL 3 0))) (eP (p1 (oGf 6 29 1) (pL 3 0))) (eP (pL 1 3)))
  (sSeq (sPfo (eP (pL 3 0)) 6 29 1 oAdd (eP (pI 1)))
  (sSt 1 3 (eP (p2 oIald (p1 (oGf 6 12 3) (pL 3 0)) (pL 1 3))))))
  sSkip)
  (sSeq (sCall 176 [(eP (pL 3 0)), (eP (pL 1 3))])
  (sWh (cP (kI .gt (p1 (oGf 6 29 1) (pL 3 0)) (pL 1 2)))
  (sBlk 4 (sSeq (sPfo (eP (pL 3 0)) 6 29 1 oSub (eP (pI 1)))
  (sSeq (sSt 1 4 (eP (p2 oIald (p1 (oGf 6 30 3) (pL 3 0)) (p1 (oGf 6 29 1) (pL 3 0)))))
  (sSeq (sCall 176 [(eP (pL 3 0)), (eP (p2 oIald (p1 (oGf 6 13 3) (pL 3 0)) (pL 1 4)))])
  (sSeq (sSe 1 (eP (p1 (oGf 6 17 3) (pL 3 0))) (eP (pL 1 4)) (eP (p2 oOr (p2 oIald (p1 (oGf 6 17 3) (pL 3 0)) (p2 oIald (p1 (oGf 6 12 3) (pL 3 0)) (pL 1 4))) (p2 oIald (p1 (oGf 6 17 3) (pL 3 0)) (p2 oIald (p1 (oGf 6 13 3) (pL 3 0)) (pL 1 4))))))
  (sSe 1 (eP (p1 (oGf 6 18 3) (pL 3 0))) (eP (pL 1 4)) (eP (pI 1))))))))
  sSkip)))))
  sRet0)
theorem k_181 : b_181.1.1 x_181 (0, true, []) = some ((137, false, []), [], []) := by decide +kernel
/-- LazyFormsModel.isRight -/
def i_182 : List (Nat × Instr × Nat) := [(0, .aload_n 0, 1), (1, .iload_n 1, 1), (2, .putfield 197, 3), (5, .aload_n 0, 1), (6, .invokevirtual 273, 3), (9, .aload_n 0, 1), (10, .iconst 0, 1), (11, .putfield 77, 3), (14, .aload_n 0, 1), (15, .iconst 0, 1), (16, .putfield 158, 3), (19, .aload_n 0, 1), (20, .ldc_w 279, 3), (23, .putfield 188, 3), (26, .aload_n 0, 1), (27, .iconst 0, 1), (28, .putfield 214, 3), (31, .aload_n 0, 1), (32, .iconst 0, 1), (33, .putfield 267, 3), (36, .iload_n 1, 1), (37, .ifCond .eq 29, 3), (40, .aload_n 0, 1), (41, .aload_n 0, 1), (42, .invokevirtual 148, 3), (45, .putfield 280, 3), (48, .aload_n 0, 1), (49, .getfield 51, 3), (52, .aload_n 0, 1), (53, .getfield 54, 3), (56, .iaload, 1), (57, .ifCond .eq 13, 3), (60, .aload_n 0, 1), (61, .iconst 1, 1), (62, .invokevirtual 120, 3), (65, .athrow, 1), (66, .aload_n 0, 1), (67, .invokevirtual 283, 3), (70, .goto 6, 3), (73, .astore_n 2, 1), (74, .iconst 0, 1), (75, .ireturn, 1), (76, .iload_n 1, 1), (77, .ifCond .eq 14, 3), (80, .aload_n 0, 1), (81, .aload_n 0, 1), (82, .getfield 280, 3), (85, .invokevirtual 227, 3), (88, .goto 7, 3), (91, .aload_n 0, 1), (92, .invokevirtual 288, 3), (95, .aload_n 0, 1), (96, .getfield 188, 3), (99, .ldc_w 279, 3), (102, .if_icmp .ge 18, 3), (105, .aload_n 0, 1), (106, .iconst 2, 1), (107, .putfield 104, 3), (110, .aload_n 0, 1), (111, .aload_n 0, 1), (112, .getfield 188, 3), (115, .putfield 107, 3), (118, .iconst 0, 1), (119, .ireturn, 1), (120, .iconst 1, 1), (121, .ireturn, 1)]
def x_182 : zCx := (6, false, 4, zCode i_182, [(36, 70, 73, 286)])
def b_182 : zS := (sSeq (sPf (eP (pL 3 0)) 6 33 4 (eP (pL 1 1)))
  (sSeq (sCall 136 [(eP (pL 3 0))])
  (sSeq (sPf (eP (pL 3 0)) 6 10 1 (eP (pI 0)))
  (sSeq (sPf (eP (pL 3 0)) 6 22 1 (eP (pI 0)))
  (sSeq (sPf (eP (pL 3 0)) 6 26 1 (eP (pI 2147483647)))
  (sSeq (sPf (eP (pL 3 0)) 6 27 1 (eP (pI 0)))
  (sSeq (sPf (eP (pL 3 0)) 6 29 1 (eP (pI 0)))
  (sSeq (sTry (sIfE (cP (k0 .ne (pL 1 1)))
  (sSeq (sPf (eP (pL 3 0)) 6 35 1 (eCall 156 [(eP (pL 3 0))]))
  (sIf (cP (k0 .ne (p2 oIald (p1 (oGf 6 7 3) (pL 3 0)) (p1 (oGf 6 6 1) (pL 3 0)))))
  (sThr (eCall 145 [(eP (pL 3 0)), (eP (pI 1))]))))
  (sCall 151 [(eP (pL 3 0))])) 7 2 (sRet 4 (eP (pI 0))))
  (sSeq (sIfE (cP (k0 .ne (pL 1 1)))
  (sCall 176 [(eP (pL 3 0)), (eP (p1 (oGf 6 35 1) (pL 3 0)))])
  (sCall 183 [(eP (pL 3 0))]))
  (sSeq (sIf (cP (kI .lt (p1 (oGf 6 26 1) (pL 3 0)) (pI 2147483647)))
  (sSeq (sPf (eP (pL 3 0)) 6 19 1 (eP (pI 2)))
  (sSeq (sPf (eP (pL 3 0)) 6 20 1 (eP (p1 (oGf 6 26 1) (pL 3 0))))
  (sRet 4 (eP (pI 0))))))
  (sRet 4 (eP (pI 1)))))))))))))
theorem k_182 : b_182.1.1 x_182 (0, true, []) = some ((122, false, []), [], []) := by decide +kernel
/-- LazyFormsModel.resolveDefinitions -/
def i_183 : List (Nat × Instr × Nat) := [(0, .iconst 0, 1), (1, .istore_n 1, 1), (2, .iload_n 1, 1), (3, .aload_n 0, 1), (4, .getfield 128, 3), (7, .if_icmp .ge 109, 3), (10, .aload_n 0, 1), (11, .getfield 131, 3), (14, .iload_n 1, 1), (15, .iaload, 1), (16, .istore_n 2, 1), (17, .iload_n 1, 1), (18, .bipush 39, 2), (20, .if_icmp .le 13, 3), (23, .aload_n 0, 1), (24, .aload_n 0, 1), (25, .getfield 95, 3), (28, .iload_n 2, 1), (29, .iaload, 1), (30, .invokevirtual 217, 3), (33, .iconst 0, 1), (34, .istore_n 3, 1), (35, .iload_n 3, 1), (36, .iload_n 1, 1), (37, .if_icmp .ge 43, 3), (40, .aload_n 0, 1), (41, .aload_n 0, 1), (42, .getfield 83, 3), (45, .iload_n 2, 1), (46, .iaload, 1), (47, .aload_n 0, 1), (48, .getfield 83, 3), (51, .aload_n 0, 1), (52, .getfield 131, 3), (55, .iload_n 3, 1), (56, .iaload, 1), (57, .iaload, 1), (58, .invokevirtual 207, 3), (61, .ifCond .eq 13, 3), (64, .aload_n 0, 1), (65, .aload_n 0, 1), (66, .getfield 95, 3), (69, .iload_n 2, 1), (70, .iaload, 1), (71, .invokevirtual 217, 3), (74, .iinc 3 1, 3), (77, .goto (-42), 3), (80, .aload_n 0, 1), (81, .iconst 0, 1), (82, .putfield 214, 3), (85, .aload_n 0, 1), (86, .aload_n 0, 1), (87, .getfield 86, 3), (90, .iload_n 2, 1), (91, .iaload, 1), (92, .invokevirtual 261, 3), (95, .aload_n 0, 1), (96, .aload_n 0, 1), (97, .getfield 89, 3), (100, .iload_n 2, 1), (101, .iaload, 1), (102, .invokevirtual 227, 3), (105, .aload_n 0, 1), (106, .iconst 0, 1), (107, .putfield 214, 3), (110, .iinc 1 1, 3), (113, .goto (-111), 3), (116, .return_, 1)]
def x_183 : zCx := (6, false, 0, zCode i_183, [])
def b_183 : zS := (sSeq (sBlk 1 (sSeq (sSt 1 1 (eP (pI 0)))
  (sWh (cP (kI .lt (pL 1 1) (p1 (oGf 6 23 1) (pL 3 0))))
  (sBlk 2 (sSeq (sSt 1 2 (eP (p2 oIald (p1 (oGf 6 24 3) (pL 3 0)) (pL 1 1))))
  (sSeq (sIf (cP (kI .gt (pL 1 1) (pI 39)))
  (sCall 169 [(eP (pL 3 0)), (eP (p2 oIald (p1 (oGf 6 16 3) (pL 3 0)) (pL 1 2)))]))
  (sSeq (sBlk 3 (sSeq (sSt 1 3 (eP (pI 0)))
  (sWh (cP (kI .lt (pL 1 3) (pL 1 1)))
  (sIf (c0 .ne (eCall 143 [(eP (pL 3 0)), (eP (p2 oIald (p1 (oGf 6 12 3) (pL 3 0)) (pL 1 2))), (eP (p2 oIald (p1 (oGf 6 12 3) (pL 3 0)) (p2 oIald (p1 (oGf 6 24 3) (pL 3 0)) (pL 1 3))))]))
  (sCall 169 [(eP (pL 3 0)), (eP (p2 oIald (p1 (oGf 6 16 3) (pL 3 0)) (pL 1 2)))]))
  (sInc 3 1))))
  (sSeq (sPf (eP (pL 3 0)) 6 27 1 (eP (pI 0)))
  (sSeq (sCall 173 [(eP (pL 3 0)), (eP (p2 oIald (p1 (oGf 6 13 3) (pL 3 0)) (pL 1 2)))])
  (sSeq (sCall 176 [(eP (pL 3 0)), (eP (p2 oIald (p1 (oGf 6 14 3) (pL 3 0)) (pL 1 2)))])
  (sPf (eP (pL 3 0)) 6 27 1 (eP (pI 0))))))))))
  (sInc 1 1))))
  sRet0)
theorem k_183 : b_183.1.1 x_183 (0, true, []) = some ((117, false, []), [], []) := by decide +kernel
/-- LazyFormsModel.low -/
def i_184 : List (Nat × Instr × Nat) := [(0, .lload_n 0, 1), (1, .l2i, 1), (2, .ireturn, 1)]
def x_184 : zCx := (6, false, 1, zCode i_184, [])
def b_184 : zS := (sRet 1 (eP (p1 oL2i (pL 2 0))))
theorem k_184 : b_184.1.1 x_184 (0, true, []) = some ((3, false, []), [], []) := by decide +kernel
/-- LazyFormsModel.kindOf -/
def i_185 : List (Nat × Instr × Nat) := [(0, .lload_n 0, 1), (1, .bipush 32, 2), (3, .lshr, 1), (4, .bipush 32, 2), (6, .lshl, 1), (7, .lreturn, 1)]
def x_185 : zCx := (6, false, 2, zCode i_185, [])
def b_185 : zS := (sRet 2 (eP (p2 oLshl (p2 oLshr (pL 2 0) (pI 32)) (pI 32))))
theorem k_185 : b_185.1.1 x_185 (0, true, []) = some ((8, false, []), [], []) := by decide +kernel
/-- LazyFormsModel.of -/
def i_186 : List (Nat × Instr × Nat) := [(0, .lload_n 0, 1), (1, .iload_n 2, 1), (2, .i2l, 1), (3, .ldc2_w 291, 3), (6, .land, 1), (7, .lor, 1), (8, .lreturn, 1)]
def x_186 : zCx := (6, false, 2, zCode i_186, [])
def b_186 : zS := (sRet 2 (eP (p2 oLor (pL 2 0) (p2 oLand (p1 oI2l (pL 1 2)) (pJ 4294967295)))))
theorem k_186 : b_186.1.1 x_186 (0, true, []) = some ((9, false, []), [], []) := by decide +kernel
/-- LazyFormsModel.hasNames -/
def i_187 : List (Nat × Instr × Nat) := [(0, .aload_n 0, 1), (1, .getfield 86, 3), (4, .aload_n 0, 1), (5, .getfield 204, 3), (8, .iload_n 1, 1), (9, .iaload, 1), (10, .iaload, 1), (11, .ifCond .lt 7, 3), (14, .iconst 1, 1), (15, .goto 4, 3), (18, .iconst 0, 1), (19, .ireturn, 1)]
def x_187 : zCx := (6, false, 4, zCode i_187, [])
def b_187 : zS := (sRet 4 (eP (pB (k0 .ge (p2 oIald (p1 (oGf 6 13 3) (pL 3 0)) (p2 oIald (p1 (oGf 6 32 3) (pL 3 0)) (pL 1 1)))))))
theorem k_187 : b_187.1.1 x_187 (0, true, []) = some ((20, false, []), [], []) := by decide +kernel
/-- LazyFormsModel.now -/
def i_188 : List (Nat × Instr × Nat) := [(0, .lload_n 1, 1), (1, .lstore_n 3, 1), (2, .iconst 1, 1), (3, .istore 5, 2), (5, .iload 5, 2), (7, .ifCond .eq 109, 3), (10, .lload_n 3, 1), (11, .invokestatic 293, 3), (14, .istore 6, 2), (16, .lload_n 3, 1), (17, .invokestatic 297, 3), (20, .ldc2_w 301, 3), (23, .lcmp, 1), (24, .ifCond .ne 14, 3), (27, .aload_n 0, 1), (28, .getfield 303, 3), (31, .iload 6, 2), (33, .iaload, 1), (34, .iconst 3, 1), (35, .if_icmp .eq 34, 3), (38, .lload_n 3, 1), (39, .invokestatic 297, 3), (42, .ldc2_w 306, 3), (45, .lcmp, 1), (46, .ifCond .ne 27, 3), (49, .aload_n 0, 1), (50, .iload 6, 2), (52, .invokevirtual 308, 3), (55, .ifCond .ne 18, 3), (58, .aload_n 0, 1), (59, .getfield 311, 3), (62, .iload 6, 2), (64, .iaload, 1), (65, .iconst 2, 1), (66, .if_icmp .ne 7, 3), (69, .iconst 1, 1), (70, .goto 4, 3), (73, .iconst 0, 1), (74, .istore 5, 2), (76, .iload 5, 2), (78, .ifCond .eq 35, 3), (81, .lload_n 3, 1), (82, .invokestatic 297, 3), (85, .ldc2_w 301, 3), (88, .lcmp, 1), (89, .ifCond .ne 16, 3), (92, .aload_n 0, 1), (93, .getfield 314, 3), (96, .bipush 16, 2), (98, .iload 6, 2), (100, .imul, 1), (101, .laload, 1), (102, .goto 10, 3), (105, .aload_n 0, 1), (106, .getfield 318, 3), (109, .iload 6, 2), (111, .laload, 1), (112, .lstore_n 3, 1), (113, .goto (-108), 3), (116, .lload_n 3, 1), (117, .lreturn, 1)]
def x_188 : zCx := (6, false, 2, zCode i_188, [])
def b_188 : zS := (sSeq (sSt 2 3 (eP (pL 2 1)))
  (sSeq (sSt 1 5 (eP (pI 1)))
  (sSeq (sWh (cP (k0 .ne (pL 1 5)))
  (sBlk 6 (sSeq (sSt 1 6 (eCall 184 [(eP (pL 2 3))]))
  (sSeq (sSt 1 5 (eB (cOr (cAnd (cL .eq (eCall 185 [(eP (pL 2 3))]) (eP (pJ 17179869184))) (cP (kI .eq (p2 oIald (p1 (oGf 6 37 3) (pL 3 0)) (pL 1 6)) (pI 3)))) (cAnd (cAnd (cL .eq (eCall 185 [(eP (pL 2 3))]) (eP (pJ 12884901888))) (cNot (c0 .ne (eCall 187 [(eP (pL 3 0)), (eP (pL 1 6))])))) (cP (kI .eq (p2 oIald (p1 (oGf 6 47 3) (pL 3 0)) (pL 1 6)) (pI 2)))))))
  (sIf (cP (k0 .ne (pL 1 5)))
  (sSt 2 3 (eIte (cL .eq (eCall 185 [(eP (pL 2 3))]) (eP (pJ 17179869184))) (eP (p2 oLald (p1 (oGf 6 40 3) (pL 3 0)) (p2 oMul (pI 16) (pL 1 6)))) (eP (p2 oLald (p1 (oGf 6 48 3) (pL 3 0)) (pL 1 6)))))))))
  sSkip)
  (sRet 2 (eP (pL 2 3))))))
theorem k_188 : b_188.1.1 x_188 (0, true, []) = some ((118, false, []), [], []) := by decide +kernel
/-- LazyFormsModel.reach -/
def i_189 : List (Nat × Instr × Nat) := [(0, .lload_n 1, 1), (1, .invokestatic 297, 3), (4, .ldc2_w 301, 3), (7, .lcmp, 1), (8, .ifCond .ne 15, 3), (11, .aload_n 0, 1), (12, .getfield 321, 3), (15, .lload_n 1, 1), (16, .invokestatic 293, 3), (19, .baload, 1), (20, .ifCond .eq 4, 3), (23, .return_, 1), (24, .aload_n 0, 1), (25, .getfield 321, 3), (28, .lload_n 1, 1), (29, .invokestatic 293, 3), (32, .iconst 1, 1), (33, .bastore, 1), (34, .aload_n 0, 1), (35, .dup, 1), (36, .getfield 325, 3), (39, .iconst 1, 1), (40, .iadd, 1), (41, .putfield 325, 3), (44, .aload_n 0, 1), (45, .getfield 328, 3), (48, .aload_n 0, 1), (49, .getfield 331, 3), (52, .lload_n 1, 1), (53, .invokestatic 293, 3), (56, .iastore, 1), (57, .aload_n 0, 1), (58, .dup, 1), (59, .getfield 331, 3), (62, .iconst 1, 1), (63, .iadd, 1), (64, .putfield 331, 3), (67, .return_, 1)]
def x_189 : zCx := (6, false, 0, zCode i_189, [])
def b_189 : zS := (sSeq (sSeq (sIf (cOr (cL .ne (eCall 185 [(eP (pL 2 1))]) (eP (pJ 17179869184))) (c0 .ne (e2 oZald (eP (p1 (oGf 6 41 3) (pL 3 0))) (eCall 184 [(eP (pL 2 1))]))))
  sRet0)
  (sSeq (sSe 3 (eP (p1 (oGf 6 41 3) (pL 3 0))) (eCall 184 [(eP (pL 2 1))]) (eP (pI 1)))
  (sSeq (sPfo (eP (pL 3 0)) 6 60 1 oAdd (eP (pI 1)))
  (sSeq (sSe 1 (eP (p1 (oGf 6 44 3) (pL 3 0))) (eP (p1 (oGf 6 45 1) (pL 3 0))) (eCall 184 [(eP (pL 2 1))]))
  (sPfo (eP (pL 3 0)) 6 45 1 oAdd (eP (pI 1)))))))
  sRet0)
theorem k_189 : b_189.1.1 x_189 (0, true, []) = some ((68, false, []), [], []) := by decide +kernel
/-- LazyFormsModel.reachRow -/
def i_190 : List (Nat × Instr × Nat) := [(0, .iconst 0, 1), (1, .istore 4, 2), (3, .iload 4, 2), (5, .bipush 16, 2), (7, .if_icmp .ge 47, 3), (10, .iload_n 3, 1), (11, .iload 4, 2), (13, .ishr, 1), (14, .iconst 1, 1), (15, .iand, 1), (16, .ifCond .ne 6, 3), (19, .goto 29, 3), (22, .aload_n 1, 1), (23, .iload_n 2, 1), (24, .iload 4, 2), (26, .iadd, 1), (27, .aload_n 0, 1), (28, .aload_n 1, 1), (29, .iload_n 2, 1), (30, .iload 4, 2), (32, .iadd, 1), (33, .laload, 1), (34, .invokevirtual 334, 3), (37, .lastore, 1), (38, .aload_n 0, 1), (39, .aload_n 1, 1), (40, .iload_n 2, 1), (41, .iload 4, 2), (43, .iadd, 1), (44, .laload, 1), (45, .invokevirtual 337, 3), (48, .iinc 4 1, 3), (51, .goto (-48), 3), (54, .return_, 1)]
def x_190 : zCx := (6, false, 0, zCode i_190, [])
def b_190 : zS := (sSeq (sBlk 4 (sSeq (sSt 1 4 (eP (pI 0)))
  (sWh (cP (kI .lt (pL 1 4) (pI 16)))
  (sSeq (sIf (cP (k0 .eq (p2 oAnd (p2 oShr (pL 1 3) (pL 1 4)) (pI 1))))
  (sCnt true))
  (sSeq (sSe 4 (eP (pL 3 1)) (eP (p2 oAdd (pL 1 2) (pL 1 4))) (eCall 188 [(eP (pL 3 0)), (eP (p2 oLald (pL 3 1) (p2 oAdd (pL 1 2) (pL 1 4))))]))
  (sCall 189 [(eP (pL 3 0)), (eP (p2 oLald (pL 3 1) (p2 oAdd (pL 1 2) (pL 1 4))))])))
  (sInc 4 1))))
  sRet0)
theorem k_190 : b_190.1.1 x_190 (0, true, []) = some ((55, false, []), [], []) := by decide +kernel
/-- LazyFormsModel.first -/
def i_191 : List (Nat × Instr × Nat) := [(0, .iload_n 0, 1), (1, .bipush 15, 2), (3, .if_icmp .le 8, 3), (6, .ldc 196, 2), (8, .goto 8, 3), (11, .iconst 1, 1), (12, .iload_n 0, 1), (13, .ishl, 1), (14, .iconst 1, 1), (15, .isub, 1), (16, .ireturn, 1)]
def x_191 : zCx := (6, false, 1, zCode i_191, [])
def b_191 : zS := (sRet 1 (eP (pIte (kI .gt (pL 1 0) (pI 15)) (pI 65535) (p2 oSub (p2 oShl (pI 1) (pL 1 0)) (pI 1)))))
theorem k_191 : b_191.1.1 x_191 (0, true, []) = some ((17, false, []), [], []) := by decide +kernel
/-- LazyFormsModel.maskOf -/
def i_192 : List (Nat × Instr × Nat) := [(0, .aload_n 0, 1), (1, .getfield 303, 3), (4, .iload_n 1, 1), (5, .iaload, 1), (6, .iconst 1, 1), (7, .if_icmp .eq 13, 3), (10, .aload_n 0, 1), (11, .getfield 303, 3), (14, .iload_n 1, 1), (15, .iaload, 1), (16, .iconst 4, 1), (17, .if_icmp .ne 17, 3), (20, .aload_n 0, 1), (21, .getfield 98, 3), (24, .aload_n 0, 1), (25, .getfield 341, 3), (28, .iload_n 1, 1), (29, .iaload, 1), (30, .iaload, 1), (31, .goto 37, 3), (34, .aload_n 0, 1), (35, .getfield 303, 3), (38, .iload_n 1, 1), (39, .iaload, 1), (40, .iconst 5, 1), (41, .if_icmp .eq 14, 3), (44, .aload_n 0, 1), (45, .getfield 303, 3), (48, .iload_n 1, 1), (49, .iaload, 1), (50, .bipush 6, 2), (52, .if_icmp .ne 15, 3), (55, .aload_n 0, 1), (56, .getfield 344, 3), (59, .iload_n 1, 1), (60, .iaload, 1), (61, .invokestatic 347, 3), (64, .goto 4, 3), (67, .iconst 0, 1), (68, .ireturn, 1)]
def x_192 : zCx := (6, false, 1, zCode i_192, [])
def b_192 : zS := (sRet 1 (eIte (cP (kOr (kI .eq (p2 oIald (p1 (oGf 6 37 3) (pL 3 0)) (pL 1 1)) (pI 1)) (kI .eq (p2 oIald (p1 (oGf 6 37 3) (pL 3 0)) (pL 1 1)) (pI 4)))) (eP (p2 oIald (p1 (oGf 6 17 3) (pL 3 0)) (p2 oIald (p1 (oGf 6 38 3) (pL 3 0)) (pL 1 1)))) (eIte (cP (kOr (kI .eq (p2 oIald (p1 (oGf 6 37 3) (pL 3 0)) (pL 1 1)) (pI 5)) (kI .eq (p2 oIald (p1 (oGf 6 37 3) (pL 3 0)) (pL 1 1)) (pI 6)))) (eCall 191 [(eP (p2 oIald (p1 (oGf 6 39 3) (pL 3 0)) (pL 1 1)))]) (eP (pI 0)))))
theorem k_192 : b_192.1.1 x_192 (0, true, []) = some ((69, false, []), [], []) := by decide +kernel
/-- LazyFormsModel.reachFrames -/
def i_193 : List (Nat × Instr × Nat) := [(0, .iconst 0, 1), (1, .istore_n 1, 1), (2, .iload_n 1, 1), (3, .aload_n 0, 1), (4, .getfield 350, 3), (7, .if_icmp .ge 168, 3), (10, .aload_n 0, 1), (11, .getfield 353, 3), (14, .iload_n 1, 1), (15, .iaload, 1), (16, .iconst 1, 1), (17, .if_icmp .ne 16, 3), (20, .aload_n 0, 1), (21, .getfield 356, 3), (24, .iload_n 1, 1), (25, .iaload, 1), (26, .ifCond .ge 7, 3), (29, .iconst 1, 1), (30, .goto 55, 3), (33, .aload_n 0, 1), (34, .getfield 353, 3), (37, .iload_n 1, 1), (38, .iaload, 1), (39, .iconst 2, 1), (40, .if_icmp .ne 15, 3), (43, .aload_n 0, 1), (44, .getfield 359, 3), (47, .iload_n 1, 1), (48, .iaload, 1), (49, .invokestatic 347, 3), (52, .goto 33, 3), (55, .aload_n 0, 1), (56, .getfield 353, 3), (59, .iload_n 1, 1), (60, .iaload, 1), (61, .iconst 3, 1), (62, .if_icmp .eq 13, 3), (65, .aload_n 0, 1), (66, .getfield 353, 3), (69, .iload_n 1, 1), (70, .iaload, 1), (71, .iconst 4, 1), (72, .if_icmp .ne 12, 3), (75, .aload_n 0, 1), (76, .getfield 362, 3), (79, .iload_n 1, 1), (80, .iaload, 1), (81, .goto 4, 3), (84, .iconst 0, 1), (85, .istore_n 2, 1), (86, .aload_n 0, 1), (87, .getfield 353, 3), (90, .iload_n 1, 1), (91, .iaload, 1), (92, .bipush 6, 2), (94, .if_icmp .ne 27, 3), (97, .aload_n 0, 1), (98, .getfield 359, 3), (101, .iload_n 1, 1), (102, .iaload, 1), (103, .invokestatic 347, 3), (106, .aload_n 0, 1), (107, .getfield 356, 3), (110, .iload_n 1, 1), (111, .iaload, 1), (112, .iconst 1, 1), (113, .iadd, 1), (114, .invokestatic 347, 3), (117, .iconst (-1), 1), (118, .ixor, 1), (119, .iand, 1), (120, .istore_n 2, 1), (121, .aload_n 0, 1), (122, .getfield 353, 3), (125, .iload_n 1, 1), (126, .iaload, 1), (127, .iconst 1, 1), (128, .if_icmp .ne 28, 3), (131, .aload_n 0, 1), (132, .getfield 356, 3), (135, .iload_n 1, 1), (136, .iaload, 1), (137, .ifCond .ge 19, 3), (140, .aload_n 0, 1), (141, .aload_n 0, 1), (142, .getfield 365, 3), (145, .bipush 16, 2), (147, .iload_n 1, 1), (148, .imul, 1), (149, .laload, 1), (150, .invokevirtual 337, 3), (153, .goto 16, 3), (156, .aload_n 0, 1), (157, .aload_n 0, 1), (158, .getfield 365, 3), (161, .bipush 16, 2), (163, .iload_n 1, 1), (164, .imul, 1), (165, .iload_n 2, 1), (166, .invokevirtual 368, 3), (169, .iinc 1 1, 3), (172, .goto (-170), 3), (175, .return_, 1)]
def x_193 : zCx := (6, false, 0, zCode i_193, [])
def b_193 : zS := (sSeq (sBlk 1 (sSeq (sSt 1 1 (eP (pI 0)))
  (sWh (cP (kI .lt (pL 1 1) (p1 (oGf 6 49 1) (pL 3 0))))
  (sBlk 2 (sSeq (sSt 1 2 (eIte (cP (kAnd (kI .eq (p2 oIald (p1 (oGf 6 50 3) (pL 3 0)) (pL 1 1)) (pI 1)) (k0 .lt (p2 oIald (p1 (oGf 6 52 3) (pL 3 0)) (pL 1 1))))) (eP (pI 1)) (eIte (cP (kI .eq (p2 oIald (p1 (oGf 6 50 3) (pL 3 0)) (pL 1 1)) (pI 2))) (eCall 191 [(eP (p2 oIald (p1 (oGf 6 53 3) (pL 3 0)) (pL 1 1)))]) (eP (pIte (kOr (kI .eq (p2 oIald (p1 (oGf 6 50 3) (pL 3 0)) (pL 1 1)) (pI 3)) (kI .eq (p2 oIald (p1 (oGf 6 50 3) (pL 3 0)) (pL 1 1)) (pI 4))) (p2 oIald (p1 (oGf 6 54 3) (pL 3 0)) (pL 1 1)) (pI 0))))))
  (sSeq (sIf (cP (kI .eq (p2 oIald (p1 (oGf 6 50 3) (pL 3 0)) (pL 1 1)) (pI 6)))
  (sSt 1 2 (e2 oAnd (eCall 191 [(eP (p2 oIald (p1 (oGf 6 53 3) (pL 3 0)) (pL 1 1)))]) (e2 oXor (eCall 191 [(eP (p2 oAdd (p2 oIald (p1 (oGf 6 52 3) (pL 3 0)) (pL 1 1)) (pI 1)))]) (eP (pI (-1)))))))
  (sIfE (cP (kAnd (kI .eq (p2 oIald (p1 (oGf 6 50 3) (pL 3 0)) (pL 1 1)) (pI 1)) (k0 .lt (p2 oIald (p1 (oGf 6 52 3) (pL 3 0)) (pL 1 1)))))
  (sCall 189 [(eP (pL 3 0)), (eP (p2 oLald (p1 (oGf 6 55 3) (pL 3 0)) (p2 oMul (pI 16) (pL 1 1))))])
  (sCall 190 [(eP (pL 3 0)), (eP (p1 (oGf 6 55 3) (pL 3 0))), (eP (p2 oMul (pI 16) (pL 1 1))), (eP (pL 1 2))])))))
  (sInc 1 1))))
  sRet0)
theorem k_193 : b_193.1.1 x_193 (0, true, []) = some ((176, false, []), [], []) := by decide +kernel
/-- LazyFormsModel.mark -/
def i_194 : List (Nat × Instr × Nat) := [(0, .iconst 0, 1), (1, .istore_n 2, 1), (2, .iload_n 2, 1), (3, .sipush 3200, 3), (6, .if_icmp .ge 16, 3), (9, .aload_n 0, 1), (10, .getfield 321, 3), (13, .iload_n 2, 1), (14, .iconst 0, 1), (15, .bastore, 1), (16, .iinc 2 1, 3), (19, .goto (-17), 3), (22, .aload_n 0, 1), (23, .iconst 0, 1), (24, .putfield 325, 3), (27, .aload_n 0, 1), (28, .iconst 0, 1), (29, .putfield 331, 3), (32, .aload_n 0, 1), (33, .aload_n 0, 1), (34, .getfield 372, 3), (37, .iconst 0, 1), (38, .iload_n 1, 1), (39, .invokevirtual 368, 3), (42, .aload_n 0, 1), (43, .getfield 375, 3), (46, .ifCond .eq 23, 3), (49, .aload_n 0, 1), (50, .aload_n 0, 1), (51, .aload_n 0, 1), (52, .getfield 378, 3), (55, .invokevirtual 334, 3), (58, .putfield 378, 3), (61, .aload_n 0, 1), (62, .aload_n 0, 1), (63, .getfield 378, 3), (66, .invokevirtual 337, 3), (69, .aload_n 0, 1), (70, .invokevirtual 382, 3), (73, .iconst 0, 1), (74, .istore_n 2, 1), (75, .iload_n 2, 1), (76, .aload_n 0, 1), (77, .getfield 201, 3), (80, .if_icmp .ge 56, 3), (83, .aload_n 0, 1), (84, .iload_n 2, 1), (85, .invokevirtual 308, 3), (88, .ifCond .ne 42, 3), (91, .aload_n 0, 1), (92, .getfield 311, 3), (95, .iload_n 2, 1), (96, .iaload, 1), (97, .iconst 2, 1), (98, .if_icmp .eq 6, 3), (101, .goto 29, 3), (104, .aload_n 0, 1), (105, .getfield 318, 3), (108, .iload_n 2, 1), (109, .aload_n 0, 1), (110, .aload_n 0, 1), (111, .getfield 318, 3), (114, .iload_n 2, 1), (115, .laload, 1), (116, .invokevirtual 334, 3), (119, .lastore, 1), (120, .aload_n 0, 1), (121, .aload_n 0, 1), (122, .getfield 318, 3), (125, .iload_n 2, 1), (126, .laload, 1), (127, .invokevirtual 337, 3), (130, .iinc 2 1, 3), (133, .goto (-58), 3), (136, .iconst 0, 1), (137, .istore_n 2, 1), (138, .iload_n 2, 1), (139, .aload_n 0, 1), (140, .getfield 385, 3), (143, .if_icmp .ge 35, 3), (146, .aload_n 0, 1), (147, .getfield 388, 3), (150, .iload_n 2, 1), (151, .aload_n 0, 1), (152, .aload_n 0, 1), (153, .getfield 388, 3), (156, .iload_n 2, 1), (157, .laload, 1), (158, .invokevirtual 334, 3), (161, .lastore, 1), (162, .aload_n 0, 1), (163, .aload_n 0, 1), (164, .getfield 388, 3), (167, .iload_n 2, 1), (168, .laload, 1), (169, .invokevirtual 337, 3), (172, .iinc 2 1, 3), (175, .goto (-37), 3), (178, .aload_n 0, 1), (179, .getfield 331, 3), (182, .ifCond .le 43, 3), (185, .aload_n 0, 1), (186, .dup, 1), (187, .getfield 331, 3), (190, .iconst 1, 1), (191, .isub, 1), (192, .putfield 331, 3), (195, .aload_n 0, 1), (196, .getfield 328, 3), (199, .aload_n 0, 1), (200, .getfield 331, 3), (203, .iaload, 1), (204, .istore_n 2, 1), (205, .aload_n 0, 1), (206, .aload_n 0, 1), (207, .getfield 314, 3), (210, .bipush 16, 2), (212, .iload_n 2, 1), (213, .imul, 1), (214, .aload_n 0, 1), (215, .iload_n 2, 1), (216, .invokevirtual 391, 3), (219, .invokevirtual 368, 3), (222, .goto (-44), 3), (225, .aload_n 0, 1), (226, .iconst 0, 1), (227, .putfield 394, 3), (230, .sipush 3199, 3), (233, .istore_n 2, 1), (234, .iload_n 2, 1), (235, .ifCond .lt 48, 3), (238, .aload_n 0, 1), (239, .getfield 321, 3), (242, .iload_n 2, 1), (243, .baload, 1), (244, .ifCond .eq 6, 3), (247, .goto 30, 3), (250, .aload_n 0, 1), (251, .getfield 303, 3), (254, .iload_n 2, 1), (255, .iconst 0, 1), (256, .iastore, 1), (257, .aload_n 0, 1), (258, .getfield 397, 3), (261, .aload_n 0, 1), (262, .getfield 394, 3), (265, .iload_n 2, 1), (266, .iastore, 1), (267, .aload_n 0, 1), (268, .dup, 1), (269, .getfield 394, 3), (272, .iconst 1, 1), (273, .iadd, 1), (274, .putfield 394, 3), (277, .iinc 2 (-1), 3), (280, .goto (-46), 3), (283, .aload_n 0, 1), (284, .aload_n 0, 1), (285, .getfield 325, 3), (288, .putfield 400, 3), (291, .return_, 1)]
def x_194 : zCx := (6, false, 0, zCode i_194, [])
def b_194 : zS := (sSeq (sSeq (sBlk 2 (sSeq (sSt 1 2 (eP (pI 0)))
  (sWh (cP (kI .lt (pL 1 2) (pI 3200)))
  (sSe 3 (eP (p1 (oGf 6 41 3) (pL 3 0))) (eP (pL 1 2)) (eP (pI 0)))
  (sInc 2 1))))
  (sSeq (sPf (eP (pL 3 0)) 6 60 1 (eP (pI 0)))
  (sSeq (sPf (eP (pL 3 0)) 6 45 1 (eP (pI 0)))
  (sSeq (sCall 190 [(eP (pL 3 0)), (eP (p1 (oGf 6 58 3) (pL 3 0))), (eP (pI 0)), (eP (pL 1 1))])
  (sSeq (sIf (cP (k0 .ne (p1 (oGf 6 56 4) (pL 3 0))))
  (sSeq (sPf (eP (pL 3 0)) 6 59 2 (eCall 188 [(eP (pL 3 0)), (eP (p1 (oGf 6 59 2) (pL 3 0)))]))
  (sCall 189 [(eP (pL 3 0)), (eP (p1 (oGf 6 59 2) (pL 3 0)))])))
  (sSeq (sCall 193 [(eP (pL 3 0))])
  (sSeq (sBlk 2 (sSeq (sSt 1 2 (eP (pI 0)))
  (sWh (cP (kI .lt (pL 1 2) (p1 (oGf 6 31 1) (pL 3 0))))
  (sSeq (sIf (cOr (c0 .ne (eCall 187 [(eP (pL 3 0)), (eP (pL 1 2))])) (cP (kI .ne (p2 oIald (p1 (oGf 6 47 3) (pL 3 0)) (pL 1 2)) (pI 2))))
  (sCnt true))
  (sSeq (sSe 4 (eP (p1 (oGf 6 48 3) (pL 3 0))) (eP (pL 1 2)) (eCall 188 [(eP (pL 3 0)), (eP (p2 oLald (p1 (oGf 6 48 3) (pL 3 0)) (pL 1 2)))]))
  (sCall 189 [(eP (pL 3 0)), (eP (p2 oLald (p1 (oGf 6 48 3) (pL 3 0)) (pL 1 2)))])))
  (sInc 2 1))))
  (sSeq (sBlk 2 (sSeq (sSt 1 2 (eP (pI 0)))
  (sWh (cP (kI .lt (pL 1 2) (p1 (oGf 6 61 1) (pL 3 0))))
  (sSeq (sSe 4 (eP (p1 (oGf 6 62 3) (pL 3 0))) (eP (pL 1 2)) (eCall 188 [(eP (pL 3 0)), (eP (p2 oLald (p1 (oGf 6 62 3) (pL 3 0)) (pL 1 2)))]))
  (sCall 189 [(eP (pL 3 0)), (eP (p2 oLald (p1 (oGf 6 62 3) (pL 3 0)) (pL 1 2)))]))
  (sInc 2 1))))
  (sSeq (sWh (cP (k0 .gt (p1 (oGf 6 45 1) (pL 3 0))))
  (sBlk 2 (sSeq (sPfo (eP (pL 3 0)) 6 45 1 oSub (eP (pI 1)))
  (sSeq (sSt 1 2 (eP (p2 oIald (p1 (oGf 6 44 3) (pL 3 0)) (p1 (oGf 6 45 1) (pL 3 0)))))
  (sCall 190 [(eP (pL 3 0)), (eP (p1 (oGf 6 40 3) (pL 3 0))), (eP (p2 oMul (pI 16) (pL 1 2))), (eCall 192 [(eP (pL 3 0)), (eP (pL 1 2))])]))))
  sSkip)
  (sSeq (sPf (eP (pL 3 0)) 6 43 1 (eP (pI 0)))
  (sSeq (sBlk 2 (sSeq (sSt 1 2 (eP (pI 3199)))
  (sWh (cP (k0 .ge (pL 1 2)))
  (sSeq (sIf (cP (k0 .ne (p2 oZald (p1 (oGf 6 41 3) (pL 3 0)) (pL 1 2))))
  (sCnt true))
  (sSeq (sSe 1 (eP (p1 (oGf 6 37 3) (pL 3 0))) (eP (pL 1 2)) (eP (pI 0)))
  (sSeq (sSe 1 (eP (p1 (oGf 6 42 3) (pL 3 0))) (eP (p1 (oGf 6 43 1) (pL 3 0))) (eP (pL 1 2)))
  (sPfo (eP (pL 3 0)) 6 43 1 oAdd (eP (pI 1))))))
  (sInc 2 (-1)))))
  (sPf (eP (pL 3 0)) 6 46 1 (eP (p1 (oGf 6 60 1) (pL 3 0)))))))))))))))
  sRet0)
theorem k_194 : b_194.1.1 x_194 (0, true, []) = some ((292, false, []), [], []) := by decide +kernel
/-- LazyFormsModel.hasRoom -/
def i_195 : List (Nat × Instr × Nat) := [(0, .iload_n 1, 1), (1, .ifCond .ne 5, 3), (4, .iconst 1, 1), (5, .ireturn, 1), (6, .aload_n 0, 1), (7, .getfield 400, 3), (10, .iload_n 1, 1), (11, .iadd, 1), (12, .aload_n 0, 1), (13, .getfield 403, 3), (16, .if_icmp .gt 11, 3), (19, .aload_n 0, 1), (20, .getfield 394, 3), (23, .iload_n 1, 1), (24, .if_icmp .ge 8, 3), (27, .aload_n 0, 1), (28, .iload_n 2, 1), (29, .invokevirtual 406, 3), (32, .aload_n 0, 1), (33, .getfield 400, 3), (36, .iload_n 1, 1), (37, .iadd, 1), (38, .aload_n 0, 1), (39, .getfield 403, 3), (42, .if_icmp .le 9, 3), (45, .aload_n 0, 1), (46, .iconst 5, 1), (47, .invokevirtual 409, 3), (50, .ireturn, 1), (51, .aload_n 0, 1), (52, .dup, 1), (53, .getfield 400, 3), (56, .iload_n 1, 1), (57, .iadd, 1), (58, .putfield 400, 3), (61, .aload_n 0, 1), (62, .dup, 1), (63, .getfield 412, 3), (66, .iload_n 1, 1), (67, .iadd, 1), (68, .putfield 412, 3), (71, .iconst 1, 1), (72, .ireturn, 1)]
def x_195 : zCx := (6, false, 4, zCode i_195, [])
def b_195 : zS := (sSeq (sIf (cP (k0 .eq (pL 1 1)))
  (sRet 4 (eP (pI 1))))
  (sSeq (sIf (cP (kOr (kI .gt (p2 oAdd (p1 (oGf 6 46 1) (pL 3 0)) (pL 1 1)) (p1 (oGf 6 36 1) (pL 3 0))) (kI .lt (p1 (oGf 6 43 1) (pL 3 0)) (pL 1 1))))
  (sCall 194 [(eP (pL 3 0)), (eP (pL 1 2))]))
  (sSeq (sIf (cP (kI .gt (p2 oAdd (p1 (oGf 6 46 1) (pL 3 0)) (pL 1 1)) (p1 (oGf 6 36 1) (pL 3 0))))
  (sRet 4 (eCall 197 [(eP (pL 3 0)), (eP (pI 5))])))
  (sSeq (sPfo (eP (pL 3 0)) 6 46 1 oAdd (eP (pL 1 1)))
  (sSeq (sPfo (eP (pL 3 0)) 6 63 1 oAdd (eP (pL 1 1)))
  (sRet 4 (eP (pI 1))))))))
theorem k_195 : b_195.1.1 x_195 (0, true, []) = some ((73, false, []), [], []) := by decide +kernel
/-- LazyFormsModel.fresh -/
def i_196 : List (Nat × Instr × Nat) := [(0, .aload_n 0, 1), (1, .dup, 1), (2, .getfield 394, 3), (5, .iconst 1, 1), (6, .isub, 1), (7, .putfield 394, 3), (10, .aload_n 0, 1), (11, .getfield 397, 3), (14, .aload_n 0, 1), (15, .getfield 394, 3), (18, .iaload, 1), (19, .istore 4, 2), (21, .aload_n 0, 1), (22, .getfield 303, 3), (25, .iload 4, 2), (27, .iload_n 1, 1), (28, .iastore, 1), (29, .aload_n 0, 1), (30, .getfield 341, 3), (33, .iload 4, 2), (35, .iload_n 2, 1), (36, .iastore, 1), (37, .aload_n 0, 1), (38, .getfield 344, 3), (41, .iload 4, 2), (43, .iload_n 3, 1), (44, .iastore, 1), (45, .iload 4, 2), (47, .ireturn, 1)]
def x_196 : zCx := (6, false, 1, zCode i_196, [])
def b_196 : zS := (sSeq (sPfo (eP (pL 3 0)) 6 43 1 oSub (eP (pI 1)))
  (sSeq (sSt 1 4 (eP (p2 oIald (p1 (oGf 6 42 3) (pL 3 0)) (p1 (oGf 6 43 1) (pL 3 0)))))
  (sSeq (sSe 1 (eP (p1 (oGf 6 37 3) (pL 3 0))) (eP (pL 1 4)) (eP (pL 1 1)))
  (sSeq (sSe 1 (eP (p1 (oGf 6 38 3) (pL 3 0))) (eP (pL 1 4)) (eP (pL 1 2)))
  (sSeq (sSe 1 (eP (p1 (oGf 6 39 3) (pL 3 0))) (eP (pL 1 4)) (eP (pL 1 3)))
  (sRet 1 (eP (pL 1 4))))))))
theorem k_196 : b_196.1.1 x_196 (0, true, []) = some ((48, false, []), [], []) := by decide +kernel
/-- LazyFormsModel.ends -/
def i_197 : List (Nat × Instr × Nat) := [(0, .aload_n 0, 1), (1, .iload_n 1, 1), (2, .putfield 415, 3), (5, .aload_n 0, 1), (6, .aload_n 0, 1), (7, .getfield 418, 3), (10, .putfield 421, 3), (13, .iconst 0, 1), (14, .ireturn, 1)]
def x_197 : zCx := (6, false, 4, zCode i_197, [])
def b_197 : zS := (sSeq (sPf (eP (pL 3 0)) 6 68 1 (eP (pL 1 1)))
  (sSeq (sPf (eP (pL 3 0)) 6 69 1 (eP (p1 (oGf 6 70 1) (pL 3 0))))
  (sRet 4 (eP (pI 0)))))
theorem k_197 : b_197.1.1 x_197 (0, true, []) = some ((15, false, []), [], []) := by decide +kernel
/-- LazyFormsModel.push -/
def i_198 : List (Nat × Instr × Nat) := [(0, .aload_n 0, 1), (1, .getfield 350, 3), (4, .sipush 400, 3), (7, .if_icmp .ne 10, 3), (10, .aload_n 0, 1), (11, .bipush 6, 2), (13, .invokevirtual 409, 3), (16, .ireturn, 1), (17, .aload_n 0, 1), (18, .getfield 353, 3), (21, .aload_n 0, 1), (22, .getfield 350, 3), (25, .iload_n 1, 1), (26, .iastore, 1), (27, .aload_n 0, 1), (28, .getfield 424, 3), (31, .aload_n 0, 1), (32, .getfield 350, 3), (35, .iload_n 2, 1), (36, .iastore, 1), (37, .aload_n 0, 1), (38, .getfield 356, 3), (41, .aload_n 0, 1), (42, .getfield 350, 3), (45, .iload_n 3, 1), (46, .iastore, 1), (47, .aload_n 0, 1), (48, .getfield 359, 3), (51, .aload_n 0, 1), (52, .getfield 350, 3), (55, .iconst 0, 1), (56, .iastore, 1), (57, .aload_n 0, 1), (58, .getfield 362, 3), (61, .aload_n 0, 1), (62, .getfield 350, 3), (65, .iconst 0, 1), (66, .iastore, 1), (67, .aload_n 0, 1), (68, .dup, 1), (69, .getfield 350, 3), (72, .iconst 1, 1), (73, .iadd, 1), (74, .putfield 350, 3), (77, .aload_n 0, 1), (78, .aload_n 0, 1), (79, .getfield 427, 3), (82, .aload_n 0, 1), (83, .getfield 350, 3), (86, .invokestatic 430, 3), (89, .putfield 427, 3), (92, .iconst 1, 1), (93, .ireturn, 1)]
def x_198 : zCx := (6, false, 4, zCode i_198, [])
def b_198 : zS := (sSeq (sIf (cP (kI .eq (p1 (oGf 6 49 1) (pL 3 0)) (pI 400)))
  (sRet 4 (eCall 197 [(eP (pL 3 0)), (eP (pI 6))])))
  (sSeq (sSe 1 (eP (p1 (oGf 6 50 3) (pL 3 0))) (eP (p1 (oGf 6 49 1) (pL 3 0))) (eP (pL 1 1)))
  (sSeq (sSe 1 (eP (p1 (oGf 6 51 3) (pL 3 0))) (eP (p1 (oGf 6 49 1) (pL 3 0))) (eP (pL 1 2)))
  (sSeq (sSe 1 (eP (p1 (oGf 6 52 3) (pL 3 0))) (eP (p1 (oGf 6 49 1) (pL 3 0))) (eP (pL 1 3)))
  (sSeq (sSe 1 (eP (p1 (oGf 6 53 3) (pL 3 0))) (eP (p1 (oGf 6 49 1) (pL 3 0))) (eP (pI 0)))
  (sSeq (sSe 1 (eP (p1 (oGf 6 54 3) (pL 3 0))) (eP (p1 (oGf 6 49 1) (pL 3 0))) (eP (pI 0)))
  (sSeq (sPfo (eP (pL 3 0)) 6 49 1 oAdd (eP (pI 1)))
  (sSeq (sPf (eP (pL 3 0)) 6 67 1 (eCall 235 [(eP (p1 (oGf 6 67 1) (pL 3 0))), (eP (p1 (oGf 6 49 1) (pL 3 0)))]))
  (sRet 4 (eP (pI 1)))))))))))
theorem k_198 : b_198.1.1 x_198 (0, true, []) = some ((94, false, []), [], []) := by decide +kernel
/-- LazyFormsModel.thing -/
def i_199 : List (Nat × Instr × Nat) := [(0, .aload_n 0, 1), (1, .getfield 80, 3), (4, .iload_n 1, 1), (5, .iaload, 1), (6, .ifCond .ne 16, 3), (9, .ldc2_w 443, 3), (12, .aload_n 0, 1), (13, .getfield 83, 3), (16, .iload_n 1, 1), (17, .iaload, 1), (18, .invokestatic 439, 3), (21, .lreturn, 1), (22, .aload_n 0, 1), (23, .getfield 80, 3), (26, .iload_n 1, 1), (27, .iaload, 1), (28, .iconst 1, 1), (29, .if_icmp .ne 25, 3), (32, .aload_n 0, 1), (33, .getfield 86, 3), (36, .iload_n 1, 1), (37, .iaload, 1), (38, .ifCond .ge 16, 3), (41, .ldc2_w 445, 3), (44, .aload_n 0, 1), (45, .getfield 83, 3), (48, .iload_n 1, 1), (49, .iaload, 1), (50, .invokestatic 439, 3), (53, .lreturn, 1), (54, .aload_n 0, 1), (55, .iload_n 1, 1), (56, .invokevirtual 447, 3), (59, .istore_n 2, 1), (60, .aload_n 0, 1), (61, .iload_n 2, 1), (62, .invokevirtual 450, 3), (65, .ldc2_w 301, 3), (68, .iload_n 2, 1), (69, .invokestatic 439, 3), (72, .lreturn, 1)]
def x_199 : zCx := (6, false, 2, zCode i_199, [])
def b_199 : zS := (sSeq (sIf (cP (k0 .eq (p2 oIald (p1 (oGf 6 11 3) (pL 3 0)) (pL 1 1))))
  (sRet 2 (eCall 186 [(eP (pJ 4294967296)), (eP (p2 oIald (p1 (oGf 6 12 3) (pL 3 0)) (pL 1 1)))])))
  (sSeq (sIf (cP (kAnd (kI .eq (p2 oIald (p1 (oGf 6 11 3) (pL 3 0)) (pL 1 1)) (pI 1)) (k0 .lt (p2 oIald (p1 (oGf 6 13 3) (pL 3 0)) (pL 1 1)))))
  (sRet 2 (eCall 186 [(eP (pJ 8589934592)), (eP (p2 oIald (p1 (oGf 6 12 3) (pL 3 0)) (pL 1 1)))])))
  (sSeq (sSt 1 2 (eCall 200 [(eP (pL 3 0)), (eP (pL 1 1))]))
  (sSeq (sCall 201 [(eP (pL 3 0)), (eP (pL 1 2))])
  (sRet 2 (eCall 186 [(eP (pJ 17179869184)), (eP (pL 1 2))]))))))
theorem k_199 : b_199.1.1 x_199 (0, true, []) = some ((73, false, []), [], []) := by decide +kernel
