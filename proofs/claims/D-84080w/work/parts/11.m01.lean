/-- LazyForms$Reader.begin -/
def i_40 : List (Nat × Instr × Nat) := [(0, .aload_n 0, 1), (1, .aload_n 1, 1), (2, .putfield 59, 3), (5, .aload_n 0, 1), (6, .aload_n 2, 1), (7, .putfield 63, 3), (10, .aload_n 0, 1), (11, .getfield 12, 3), (14, .aload_n 3, 1), (15, .iload 4, 2), (17, .invokevirtual 66, 3), (20, .aload_n 0, 1), (21, .iconst 0, 1), (22, .putfield 35, 3), (25, .aload_n 0, 1), (26, .iconst 0, 1), (27, .putfield 70, 3), (30, .aload_n 0, 1), (31, .iconst 0, 1), (32, .putfield 43, 3), (35, .aload_n 0, 1), (36, .iconst (-1), 1), (37, .putfield 49, 3), (40, .aload_n 0, 1), (41, .getfield 59, 3), (44, .invokevirtual 73, 3), (47, .return_, 1)]
def x_40 : zCx := (2, false, 0, zCode i_40, [])
def b_40 : zS := (sSeq (sSeq (sPf (eP (pL 3 0)) 2 2 3 (eP (pL 3 1)))
  (sSeq (sPf (eP (pL 3 0)) 2 3 3 (eP (pL 3 2)))
  (sSeq (sCall 19 [(eP (p1 (oGf 2 0 3) (pL 3 0))), (eP (pL 3 3)), (eP (pL 1 4))])
  (sSeq (sPf (eP (pL 3 0)) 2 4 1 (eP (pI 0)))
  (sSeq (sPf (eP (pL 3 0)) 2 5 1 (eP (pI 0)))
  (sSeq (sPf (eP (pL 3 0)) 2 6 1 (eP (pI 0)))
  (sSeq (sPf (eP (pL 3 0)) 2 7 1 (eP (pI (-1))))
  (sCall 29 [(eP (p1 (oGf 2 2 3) (pL 3 0)))]))))))))
  sRet0)
theorem k_40 : b_40.1.1 x_40 (0, true, []) = some ((48, false, []), [], []) := by decide +kernel
/-- LazyForms$Reader.program -/
def i_41 : List (Nat × Instr × Nat) := [(0, .aload_n 0, 1), (1, .aload_n 1, 1), (2, .aload_n 1, 1), (3, .aload_n 2, 1), (4, .iload_n 3, 1), (5, .invokevirtual 78, 3), (8, .aload_n 1, 1), (9, .getstatic 82, 3), (12, .iconst 0, 1), (13, .iconst 4, 1), (14, .invokevirtual 86, 3), (17, .istore 4, 2), (19, .aload_n 1, 1), (20, .getstatic 90, 3), (23, .iconst 0, 1), (24, .iconst 5, 1), (25, .invokevirtual 86, 3), (28, .istore 4, 2), (30, .aload_n 0, 1), (31, .iconst 2, 1), (32, .invokevirtual 39, 3), (35, .ifCond .eq 10, 3), (38, .aload_n 0, 1), (39, .invokevirtual 93, 3), (42, .goto (-12), 3), (45, .aload_n 0, 1), (46, .iconst 0, 1), (47, .invokevirtual 39, 3), (50, .ifCond .ne 8, 3), (53, .aload_n 0, 1), (54, .iconst 1, 1), (55, .invokevirtual 55, 3), (58, .goto 7, 3), (61, .astore 5, 2), (63, .iconst 0, 1), (64, .ireturn, 1), (65, .aload_n 0, 1), (66, .invokevirtual 96, 3), (69, .aload_n 0, 1), (70, .getfield 43, 3), (73, .ifCond .ne 7, 3), (76, .iconst 1, 1), (77, .goto 4, 3), (80, .iconst 0, 1), (81, .ireturn, 1)]
def x_41 : zCx := (2, false, 4, zCode i_41, [(30, 58, 61, 18)])
def b_41 : zS := (sSeq (sCall 40 [(eP (pL 3 0)), (eP (pL 3 1)), (eP (pL 3 1)), (eP (pL 3 2)), (eP (pL 1 3))])
  (sSeq (sSt 1 4 (eCall 32 [(eP (pL 3 1)), (eP (pS 1)), (eP (pI 0)), (eP (pI 4))]))
  (sSeq (sSt 1 4 (eCall 32 [(eP (pL 3 1)), (eP (pS 2)), (eP (pI 0)), (eP (pI 5))]))
  (sSeq (sTry (sSeq (sWh (c0 .ne (eCall 36 [(eP (pL 3 0)), (eP (pI 2))]))
  (sCall 43 [(eP (pL 3 0))])
  sSkip)
  (sIf (cNot (c0 .ne (eCall 36 [(eP (pL 3 0)), (eP (pI 0))])))
  (sCall 38 [(eP (pL 3 0)), (eP (pI 1))]))) 3 5 (sRet 4 (eP (pI 0))))
  (sSeq (sCall 61 [(eP (pL 3 0))])
  (sRet 4 (eP (pB (k0 .eq (p1 (oGf 2 6 1) (pL 3 0)))))))))))
theorem k_41 : b_41.1.1 x_41 (0, true, []) = some ((82, false, []), [], []) := by decide +kernel
/-- LazyForms$Reader.expression -/
def i_42 : List (Nat × Instr × Nat) := [(0, .aload_n 0, 1), (1, .aload_n 1, 1), (2, .aload_n 2, 1), (3, .aload_n 3, 1), (4, .iload 4, 2), (6, .invokevirtual 78, 3), (9, .aload_n 1, 1), (10, .aload_n 0, 1), (11, .invokevirtual 99, 3), (14, .putfield 103, 3), (17, .aload_n 0, 1), (18, .iconst 0, 1), (19, .invokevirtual 39, 3), (22, .ifCond .ne 8, 3), (25, .aload_n 0, 1), (26, .iconst 1, 1), (27, .invokevirtual 55, 3), (30, .goto 7, 3), (33, .astore 5, 2), (35, .iconst 0, 1), (36, .ireturn, 1), (37, .aload_n 0, 1), (38, .iconst 0, 1), (39, .putfield 106, 3), (42, .aload_n 0, 1), (43, .iconst 0, 1), (44, .putfield 109, 3), (47, .aload_n 1, 1), (48, .getfield 112, 3), (51, .aload_n 1, 1), (52, .getfield 103, 3), (55, .aload_n 0, 1), (56, .aload_n 1, 1), (57, .getfield 103, 3), (60, .invokevirtual 115, 3), (63, .iastore, 1), (64, .aload_n 0, 1), (65, .getfield 43, 3), (68, .ifCond .ne 7, 3), (71, .iconst 1, 1), (72, .goto 4, 3), (75, .iconst 0, 1), (76, .ireturn, 1)]
def x_42 : zCx := (2, false, 4, zCode i_42, [(9, 30, 33, 18)])
def b_42 : zS := (sSeq (sCall 40 [(eP (pL 3 0)), (eP (pL 3 1)), (eP (pL 3 2)), (eP (pL 3 3)), (eP (pL 1 4))])
  (sSeq (sTry (sSeq (sPf (eP (pL 3 1)) 5 17 1 (eCall 49 [(eP (pL 3 0))]))
  (sIf (cNot (c0 .ne (eCall 36 [(eP (pL 3 0)), (eP (pI 0))])))
  (sCall 38 [(eP (pL 3 0)), (eP (pI 1))]))) 3 5 (sRet 4 (eP (pI 0))))
  (sSeq (sPf (eP (pL 3 0)) 2 11 1 (eP (pI 0)))
  (sSeq (sPf (eP (pL 3 0)) 2 13 1 (eP (pI 0)))
  (sSeq (sSe 1 (eP (p1 (oGf 5 5 3) (pL 3 1))) (eP (p1 (oGf 5 17 1) (pL 3 1))) (eCall 65 [(eP (pL 3 0)), (eP (p1 (oGf 5 17 1) (pL 3 1)))]))
  (sRet 4 (eP (pB (k0 .eq (p1 (oGf 2 6 1) (pL 3 0)))))))))))
theorem k_42 : b_42.1.1 x_42 (0, true, []) = some ((77, false, []), [], []) := by decide +kernel
/-- LazyForms$Reader.definition -/
def i_43 : List (Nat × Instr × Nat) := [(0, .aload_n 0, 1), (1, .getfield 59, 3), (4, .getfield 103, 3), (7, .iconst (-1), 1), (8, .if_icmp .ne 8, 3), (11, .aload_n 0, 1), (12, .iconst (-1), 1), (13, .putfield 119, 3), (16, .aload_n 0, 1), (17, .invokevirtual 122, 3), (20, .istore_n 1, 1), (21, .aload_n 0, 1), (22, .getfield 119, 3), (25, .iconst (-1), 1), (26, .if_icmp .ne 14, 3), (29, .aload_n 0, 1), (30, .getfield 59, 3), (33, .iload_n 1, 1), (34, .putfield 103, 3), (37, .goto 16, 3), (40, .aload_n 0, 1), (41, .getfield 59, 3), (44, .getfield 125, 3), (47, .aload_n 0, 1), (48, .getfield 119, 3), (51, .iload_n 1, 1), (52, .iastore, 1), (53, .aload_n 0, 1), (54, .iload_n 1, 1), (55, .putfield 119, 3), (58, .aload_n 0, 1), (59, .bipush 13, 2), (61, .invokevirtual 128, 3), (64, .return_, 1)]
def x_43 : zCx := (2, false, 0, zCode i_43, [])
def b_43 : zS := (sSeq (sSeq (sIf (cP (kI .eq (p1 (oGf 5 17 1) (p1 (oGf 2 2 3) (pL 3 0))) (pI (-1))))
  (sPf (eP (pL 3 0)) 2 9 1 (eP (pI (-1)))))
  (sSeq (sSt 1 1 (eCall 44 [(eP (pL 3 0))]))
  (sSeq (sIfE (cP (kI .eq (p1 (oGf 2 9 1) (pL 3 0)) (pI (-1))))
  (sPf (eP (p1 (oGf 2 2 3) (pL 3 0))) 5 17 1 (eP (pL 1 1)))
  (sSe 1 (eP (p1 (oGf 5 6 3) (p1 (oGf 2 2 3) (pL 3 0)))) (eP (p1 (oGf 2 9 1) (pL 3 0))) (eP (pL 1 1))))
  (sSeq (sPf (eP (pL 3 0)) 2 9 1 (eP (pL 1 1)))
  (sCall 39 [(eP (pL 3 0)), (eP (pI 13))])))))
  sRet0)
theorem k_43 : b_43.1.1 x_43 (0, true, []) = some ((65, false, []), [], []) := by decide +kernel
/-- LazyForms$Reader.bound -/
def i_44 : List (Nat × Instr × Nat) := [(0, .aload_n 0, 1), (1, .getfield 35, 3), (4, .istore_n 1, 1), (5, .aload_n 0, 1), (6, .dup, 1), (7, .getfield 35, 3), (10, .iconst 1, 1), (11, .iadd, 1), (12, .putfield 35, 3), (15, .iconst (-1), 1), (16, .istore_n 2, 1), (17, .iconst 0, 1), (18, .istore_n 3, 1), (19, .iconst (-1), 1), (20, .istore 4, 2), (22, .aload_n 0, 1), (23, .iconst 2, 1), (24, .invokevirtual 39, 3), (27, .ifCond .eq 43, 3), (30, .aload_n 0, 1), (31, .invokevirtual 131, 3), (34, .istore 5, 2), (36, .iload 4, 2), (38, .iconst (-1), 1), (39, .if_icmp .ne 9, 3), (42, .iload 5, 2), (44, .istore_n 2, 1), (45, .goto 15, 3), (48, .aload_n 0, 1), (49, .getfield 59, 3), (52, .getfield 125, 3), (55, .iload 4, 2), (57, .iload 5, 2), (59, .iastore, 1), (60, .iload 5, 2), (62, .istore 4, 2), (64, .iinc 3 1, 3), (67, .goto (-45), 3), (70, .aload_n 0, 1), (71, .bipush 14, 2), (73, .invokevirtual 128, 3), (76, .aload_n 0, 1), (77, .invokevirtual 99, 3), (80, .istore 5, 2), (82, .aload_n 0, 1), (83, .getfield 59, 3), (86, .bipush 6, 2), (88, .aload_n 0, 1), (89, .getfield 12, 3), (92, .getfield 46, 3), (95, .iload_n 1, 1), (96, .iaload, 1), (97, .iconst (-1), 1), (98, .iload 5, 2), (100, .iconst 0, 1), (101, .invokevirtual 134, 3), (104, .istore 6, 2), (106, .aload_n 0, 1), (107, .getfield 59, 3), (110, .getfield 138, 3), (113, .iload 6, 2), (115, .iload_n 1, 1), (116, .iastore, 1), (117, .iload_n 3, 1), (118, .ifCond .le 30, 3), (121, .aload_n 0, 1), (122, .getfield 59, 3), (125, .getfield 141, 3), (128, .iload 6, 2), (130, .aload_n 0, 1), (131, .aload_n 0, 1), (132, .getfield 12, 3), (135, .getfield 46, 3), (138, .iload_n 1, 1), (139, .iaload, 1), (140, .iload_n 2, 1), (141, .iload_n 3, 1), (142, .iload 5, 2), (144, .invokevirtual 144, 3), (147, .iastore, 1), (148, .iload 6, 2), (150, .ireturn, 1)]
def x_44 : zCx := (2, false, 1, zCode i_44, [])
def b_44 : zS := (sSeq (sSt 1 1 (eP (p1 (oGf 2 4 1) (pL 3 0))))
  (sSeq (sPfo (eP (pL 3 0)) 2 4 1 oAdd (eP (pI 1)))
  (sSeq (sSt 1 2 (eP (pI (-1))))
  (sSeq (sSt 1 3 (eP (pI 0)))
  (sSeq (sSt 1 4 (eP (pI (-1))))
  (sSeq (sWh (c0 .ne (eCall 36 [(eP (pL 3 0)), (eP (pI 2))]))
  (sBlk 5 (sSeq (sSt 1 5 (eCall 45 [(eP (pL 3 0))]))
  (sSeq (sIfE (cP (kI .eq (pL 1 4) (pI (-1))))
  (sSt 1 2 (eP (pL 1 5)))
  (sSe 1 (eP (p1 (oGf 5 6 3) (p1 (oGf 2 2 3) (pL 3 0)))) (eP (pL 1 4)) (eP (pL 1 5))))
  (sSeq (sSt 1 4 (eP (pL 1 5)))
  (sInc 3 1)))))
  sSkip)
  (sSeq (sCall 39 [(eP (pL 3 0)), (eP (pI 14))])
  (sSeq (sSt 1 5 (eCall 49 [(eP (pL 3 0))]))
  (sSeq (sSt 1 6 (eCall 30 [(eP (p1 (oGf 2 2 3) (pL 3 0))), (eP (pI 6)), (eP (p2 oIald (p1 (oGf 4 4 3) (p1 (oGf 2 0 3) (pL 3 0))) (pL 1 1))), (eP (pI (-1))), (eP (pL 1 5)), (eP (pI 0))]))
  (sSeq (sSe 1 (eP (p1 (oGf 5 7 3) (p1 (oGf 2 2 3) (pL 3 0)))) (eP (pL 1 6)) (eP (pL 1 1)))
  (sSeq (sIf (cP (k0 .gt (pL 1 3)))
  (sSe 1 (eP (p1 (oGf 5 3 3) (p1 (oGf 2 2 3) (pL 3 0)))) (eP (pL 1 6)) (eCall 46 [(eP (pL 3 0)), (eP (p2 oIald (p1 (oGf 4 4 3) (p1 (oGf 2 0 3) (pL 3 0))) (pL 1 1))), (eP (pL 1 2)), (eP (pL 1 3)), (eP (pL 1 5))])))
  (sRet 1 (eP (pL 1 6))))))))))))))
theorem k_44 : b_44.1.1 x_44 (0, true, []) = some ((151, false, []), [], []) := by decide +kernel
/-- LazyForms$Reader.aPlace -/
def i_45 : List (Nat × Instr × Nat) := [(0, .aload_n 0, 1), (1, .getfield 59, 3), (4, .bipush 9, 2), (6, .aload_n 0, 1), (7, .getfield 12, 3), (10, .getfield 46, 3), (13, .aload_n 0, 1), (14, .getfield 35, 3), (17, .iaload, 1), (18, .iconst (-1), 1), (19, .iconst 0, 1), (20, .iconst 0, 1), (21, .invokevirtual 134, 3), (24, .istore_n 1, 1), (25, .aload_n 0, 1), (26, .getfield 59, 3), (29, .getfield 138, 3), (32, .iload_n 1, 1), (33, .aload_n 0, 1), (34, .bipush 24, 2), (36, .invokevirtual 39, 3), (39, .ifCond .eq 7, 3), (42, .iconst (-1), 1), (43, .goto 7, 3), (46, .aload_n 0, 1), (47, .getfield 35, 3), (50, .iastore, 1), (51, .aload_n 0, 1), (52, .dup, 1), (53, .getfield 35, 3), (56, .iconst 1, 1), (57, .iadd, 1), (58, .putfield 35, 3), (61, .iload_n 1, 1), (62, .ireturn, 1)]
def x_45 : zCx := (2, false, 1, zCode i_45, [])
def b_45 : zS := (sSeq (sSt 1 1 (eCall 30 [(eP (p1 (oGf 2 2 3) (pL 3 0))), (eP (pI 9)), (eP (p2 oIald (p1 (oGf 4 4 3) (p1 (oGf 2 0 3) (pL 3 0))) (p1 (oGf 2 4 1) (pL 3 0)))), (eP (pI (-1))), (eP (pI 0)), (eP (pI 0))]))
  (sSeq (sSe 1 (eP (p1 (oGf 5 7 3) (p1 (oGf 2 2 3) (pL 3 0)))) (eP (pL 1 1)) (eIte (c0 .ne (eCall 36 [(eP (pL 3 0)), (eP (pI 24))])) (eP (pI (-1))) (eP (p1 (oGf 2 4 1) (pL 3 0)))))
  (sSeq (sPfo (eP (pL 3 0)) 2 4 1 oAdd (eP (pI 1)))
  (sRet 1 (eP (pL 1 1))))))
theorem k_45 : b_45.1.1 x_45 (0, true, []) = some ((63, false, []), [], []) := by decide +kernel
/-- LazyForms$Reader.function -/
def i_46 : List (Nat × Instr × Nat) := [(0, .aload_n 0, 1), (1, .getfield 59, 3), (4, .iconst 4, 1), (5, .iload_n 1, 1), (6, .iload_n 3, 1), (7, .iconst (-1), 1), (8, .iload 4, 2), (10, .invokevirtual 134, 3), (13, .istore 5, 2), (15, .aload_n 0, 1), (16, .getfield 59, 3), (19, .getfield 138, 3), (22, .iload 5, 2), (24, .iload_n 2, 1), (25, .iastore, 1), (26, .iload 5, 2), (28, .ireturn, 1)]
def x_46 : zCx := (2, false, 1, zCode i_46, [])
def b_46 : zS := (sSeq (sSt 1 5 (eCall 30 [(eP (p1 (oGf 2 2 3) (pL 3 0))), (eP (pI 4)), (eP (pL 1 1)), (eP (pL 1 3)), (eP (pI (-1))), (eP (pL 1 4))]))
  (sSeq (sSe 1 (eP (p1 (oGf 5 7 3) (p1 (oGf 2 2 3) (pL 3 0)))) (eP (pL 1 5)) (eP (pL 1 2)))
  (sRet 1 (eP (pL 1 5)))))
theorem k_46 : b_46.1.1 x_46 (0, true, []) = some ((29, false, []), [], []) := by decide +kernel
/-- LazyForms$Reader.begins -/
def i_47 : List (Nat × Instr × Nat) := [(0, .aload_n 0, 1), (1, .invokevirtual 148, 3), (4, .ifCond .ne 29, 3), (7, .aload_n 0, 1), (8, .bipush 16, 2), (10, .invokevirtual 39, 3), (13, .ifCond .ne 20, 3), (16, .aload_n 0, 1), (17, .iconst 5, 1), (18, .invokevirtual 39, 3), (21, .ifCond .ne 12, 3), (24, .aload_n 0, 1), (25, .bipush 7, 2), (27, .invokevirtual 39, 3), (30, .ifCond .eq 7, 3), (33, .iconst 1, 1), (34, .goto 4, 3), (37, .iconst 0, 1), (38, .ireturn, 1)]
def x_47 : zCx := (2, false, 4, zCode i_47, [])
def b_47 : zS := (sRet 4 (eB (cOr (cOr (cOr (c0 .ne (eCall 48 [(eP (pL 3 0))])) (c0 .ne (eCall 36 [(eP (pL 3 0)), (eP (pI 16))]))) (c0 .ne (eCall 36 [(eP (pL 3 0)), (eP (pI 5))]))) (c0 .ne (eCall 36 [(eP (pL 3 0)), (eP (pI 7))])))))
theorem k_47 : b_47.1.1 x_47 (0, true, []) = some ((39, false, []), [], []) := by decide +kernel
/-- LazyForms$Reader.isAtom -/
def i_48 : List (Nat × Instr × Nat) := [(0, .aload_n 0, 1), (1, .iconst 2, 1), (2, .invokevirtual 39, 3), (5, .ifCond .ne 28, 3), (8, .aload_n 0, 1), (9, .iconst 4, 1), (10, .invokevirtual 39, 3), (13, .ifCond .ne 20, 3), (16, .aload_n 0, 1), (17, .iconst 3, 1), (18, .invokevirtual 39, 3), (21, .ifCond .ne 12, 3), (24, .aload_n 0, 1), (25, .bipush 9, 2), (27, .invokevirtual 39, 3), (30, .ifCond .eq 7, 3), (33, .iconst 1, 1), (34, .goto 4, 3), (37, .iconst 0, 1), (38, .ireturn, 1)]
def x_48 : zCx := (2, false, 4, zCode i_48, [])
def b_48 : zS := (sRet 4 (eB (cOr (cOr (cOr (c0 .ne (eCall 36 [(eP (pL 3 0)), (eP (pI 2))])) (c0 .ne (eCall 36 [(eP (pL 3 0)), (eP (pI 4))]))) (c0 .ne (eCall 36 [(eP (pL 3 0)), (eP (pI 3))]))) (c0 .ne (eCall 36 [(eP (pL 3 0)), (eP (pI 9))])))))
theorem k_48 : b_48.1.1 x_48 (0, true, []) = some ((39, false, []), [], []) := by decide +kernel
/-- LazyForms$Reader.ex -/
def i_49 : List (Nat × Instr × Nat) := [(0, .aload_n 0, 1), (1, .getfield 70, 3), (4, .bipush 20, 2), (6, .if_icmp .ne 19, 3), (9, .aload_n 0, 1), (10, .aload_n 0, 1), (11, .invokevirtual 152, 3), (14, .ifCond .eq 7, 3), (17, .iconst 3, 1), (18, .goto 4, 3), (21, .iconst 1, 1), (22, .invokevirtual 55, 3), (25, .aload_n 0, 1), (26, .dup, 1), (27, .getfield 70, 3), (30, .iconst 1, 1), (31, .iadd, 1), (32, .putfield 70, 3), (35, .aload_n 0, 1), (36, .bipush 16, 2), (38, .invokevirtual 39, 3), (41, .ifCond .eq 10, 3), (44, .aload_n 0, 1), (45, .invokevirtual 155, 3), (48, .goto 38, 3), (51, .aload_n 0, 1), (52, .iconst 5, 1), (53, .invokevirtual 39, 3), (56, .ifCond .eq 10, 3), (59, .aload_n 0, 1), (60, .invokevirtual 158, 3), (63, .goto 23, 3), (66, .aload_n 0, 1), (67, .bipush 7, 2), (69, .invokevirtual 39, 3), (72, .ifCond .eq 10, 3), (75, .aload_n 0, 1), (76, .invokevirtual 161, 3), (79, .goto 7, 3), (82, .aload_n 0, 1), (83, .invokevirtual 164, 3), (86, .istore_n 1, 1), (87, .aload_n 0, 1), (88, .dup, 1), (89, .getfield 70, 3), (92, .iconst 1, 1), (93, .isub, 1), (94, .putfield 70, 3), (97, .iload_n 1, 1), (98, .ireturn, 1)]
def x_49 : zCx := (2, false, 1, zCode i_49, [])
def b_49 : zS := (sSeq (sIf (cP (kI .eq (p1 (oGf 2 5 1) (pL 3 0)) (pI 20)))
  (sCall 38 [(eP (pL 3 0)), (eIte (c0 .ne (eCall 47 [(eP (pL 3 0))])) (eP (pI 3)) (eP (pI 1)))]))
  (sSeq (sPfo (eP (pL 3 0)) 2 5 1 oAdd (eP (pI 1)))
  (sSeq (sSt 1 1 (eIte (c0 .ne (eCall 36 [(eP (pL 3 0)), (eP (pI 16))])) (eCall 50 [(eP (pL 3 0))]) (eIte (c0 .ne (eCall 36 [(eP (pL 3 0)), (eP (pI 5))])) (eCall 51 [(eP (pL 3 0))]) (eIte (c0 .ne (eCall 36 [(eP (pL 3 0)), (eP (pI 7))])) (eCall 52 [(eP (pL 3 0))]) (eCall 55 [(eP (pL 3 0))])))))
  (sSeq (sPfo (eP (pL 3 0)) 2 5 1 oSub (eP (pI 1)))
  (sRet 1 (eP (pL 1 1)))))))
theorem k_49 : b_49.1.1 x_49 (0, true, []) = some ((99, false, []), [], []) := by decide +kernel
/-- LazyForms$Reader.lambda -/
def i_50 : List (Nat × Instr × Nat) := [(0, .aload_n 0, 1), (1, .getfield 35, 3), (4, .istore_n 1, 1), (5, .aload_n 0, 1), (6, .dup, 1), (7, .getfield 35, 3), (10, .iconst 1, 1), (11, .iadd, 1), (12, .putfield 35, 3), (15, .aload_n 0, 1), (16, .iconst 2, 1), (17, .invokevirtual 39, 3), (20, .ifCond .ne 8, 3), (23, .aload_n 0, 1), (24, .iconst 1, 1), (25, .invokevirtual 55, 3), (28, .iconst (-1), 1), (29, .istore_n 2, 1), (30, .iconst 0, 1), (31, .istore_n 3, 1), (32, .iconst (-1), 1), (33, .istore 4, 2), (35, .aload_n 0, 1), (36, .iconst 2, 1), (37, .invokevirtual 39, 3), (40, .ifCond .eq 43, 3), (43, .aload_n 0, 1), (44, .invokevirtual 131, 3), (47, .istore 5, 2), (49, .iload 4, 2), (51, .iconst (-1), 1), (52, .if_icmp .ne 9, 3), (55, .iload 5, 2), (57, .istore_n 2, 1), (58, .goto 15, 3), (61, .aload_n 0, 1), (62, .getfield 59, 3), (65, .getfield 125, 3), (68, .iload 4, 2), (70, .iload 5, 2), (72, .iastore, 1), (73, .iload 5, 2), (75, .istore 4, 2), (77, .iinc 3 1, 3), (80, .goto (-45), 3), (83, .aload_n 0, 1), (84, .bipush 15, 2), (86, .invokevirtual 128, 3), (89, .aload_n 0, 1), (90, .invokevirtual 99, 3), (93, .istore 5, 2), (95, .aload_n 0, 1), (96, .aload_n 0, 1), (97, .getfield 12, 3), (100, .getfield 46, 3), (103, .iload_n 1, 1), (104, .iaload, 1), (105, .iload_n 2, 1), (106, .iload_n 3, 1), (107, .iload 5, 2), (109, .invokevirtual 144, 3), (112, .ireturn, 1)]
def x_50 : zCx := (2, false, 1, zCode i_50, [])
def b_50 : zS := (sSeq (sSt 1 1 (eP (p1 (oGf 2 4 1) (pL 3 0))))
  (sSeq (sPfo (eP (pL 3 0)) 2 4 1 oAdd (eP (pI 1)))
  (sSeq (sIf (cNot (c0 .ne (eCall 36 [(eP (pL 3 0)), (eP (pI 2))])))
  (sCall 38 [(eP (pL 3 0)), (eP (pI 1))]))
  (sSeq (sSt 1 2 (eP (pI (-1))))
  (sSeq (sSt 1 3 (eP (pI 0)))
  (sSeq (sSt 1 4 (eP (pI (-1))))
  (sSeq (sWh (c0 .ne (eCall 36 [(eP (pL 3 0)), (eP (pI 2))]))
  (sBlk 5 (sSeq (sSt 1 5 (eCall 45 [(eP (pL 3 0))]))
  (sSeq (sIfE (cP (kI .eq (pL 1 4) (pI (-1))))
  (sSt 1 2 (eP (pL 1 5)))
  (sSe 1 (eP (p1 (oGf 5 6 3) (p1 (oGf 2 2 3) (pL 3 0)))) (eP (pL 1 4)) (eP (pL 1 5))))
  (sSeq (sSt 1 4 (eP (pL 1 5)))
  (sInc 3 1)))))
  sSkip)
  (sSeq (sCall 39 [(eP (pL 3 0)), (eP (pI 15))])
  (sSeq (sSt 1 5 (eCall 49 [(eP (pL 3 0))]))
  (sRet 1 (eCall 46 [(eP (pL 3 0)), (eP (p2 oIald (p1 (oGf 4 4 3) (p1 (oGf 2 0 3) (pL 3 0))) (pL 1 1))), (eP (pL 1 2)), (eP (pL 1 3)), (eP (pL 1 5))])))))))))))
theorem k_50 : b_50.1.1 x_50 (0, true, []) = some ((113, false, []), [], []) := by decide +kernel
/-- LazyForms$Reader.let -/
def i_51 : List (Nat × Instr × Nat) := [(0, .aload_n 0, 1), (1, .getfield 35, 3), (4, .istore_n 1, 1), (5, .aload_n 0, 1), (6, .dup, 1), (7, .getfield 35, 3), (10, .iconst 1, 1), (11, .iadd, 1), (12, .putfield 35, 3), (15, .aload_n 0, 1), (16, .iconst 2, 1), (17, .invokevirtual 39, 3), (20, .ifCond .ne 8, 3), (23, .aload_n 0, 1), (24, .iconst 1, 1), (25, .invokevirtual 55, 3), (28, .aload_n 0, 1), (29, .invokevirtual 122, 3), (32, .istore_n 2, 1), (33, .iload_n 2, 1), (34, .istore_n 3, 1), (35, .aload_n 0, 1), (36, .bipush 13, 2), (38, .invokevirtual 52, 3), (41, .ifCond .eq 39, 3), (44, .aload_n 0, 1), (45, .iconst 2, 1), (46, .invokevirtual 39, 3), (49, .ifCond .ne 8, 3), (52, .aload_n 0, 1), (53, .iconst 1, 1), (54, .invokevirtual 55, 3), (57, .aload_n 0, 1), (58, .invokevirtual 122, 3), (61, .istore 4, 2), (63, .aload_n 0, 1), (64, .getfield 59, 3), (67, .getfield 125, 3), (70, .iload_n 3, 1), (71, .iload 4, 2), (73, .iastore, 1), (74, .iload 4, 2), (76, .istore_n 3, 1), (77, .goto (-42), 3), (80, .aload_n 0, 1), (81, .bipush 6, 2), (83, .invokevirtual 128, 3), (86, .aload_n 0, 1), (87, .invokevirtual 99, 3), (90, .istore 4, 2), (92, .aload_n 0, 1), (93, .getfield 59, 3), (96, .iconst 5, 1), (97, .aload_n 0, 1), (98, .getfield 12, 3), (101, .getfield 46, 3), (104, .iload_n 1, 1), (105, .iaload, 1), (106, .iload_n 2, 1), (107, .iload 4, 2), (109, .iconst 0, 1), (110, .invokevirtual 134, 3), (113, .ireturn, 1)]
def x_51 : zCx := (2, false, 1, zCode i_51, [])
def b_51 : zS := (sSeq (sSt 1 1 (eP (p1 (oGf 2 4 1) (pL 3 0))))
  (sSeq (sPfo (eP (pL 3 0)) 2 4 1 oAdd (eP (pI 1)))
  (sSeq (sIf (cNot (c0 .ne (eCall 36 [(eP (pL 3 0)), (eP (pI 2))])))
  (sCall 38 [(eP (pL 3 0)), (eP (pI 1))]))
  (sSeq (sSt 1 2 (eCall 44 [(eP (pL 3 0))]))
  (sSeq (sSt 1 3 (eP (pL 1 2)))
  (sSeq (sWh (c0 .ne (eCall 37 [(eP (pL 3 0)), (eP (pI 13))]))
  (sBlk 4 (sSeq (sIf (cNot (c0 .ne (eCall 36 [(eP (pL 3 0)), (eP (pI 2))])))
  (sCall 38 [(eP (pL 3 0)), (eP (pI 1))]))
  (sSeq (sSt 1 4 (eCall 44 [(eP (pL 3 0))]))
  (sSeq (sSe 1 (eP (p1 (oGf 5 6 3) (p1 (oGf 2 2 3) (pL 3 0)))) (eP (pL 1 3)) (eP (pL 1 4)))
  (sSt 1 3 (eP (pL 1 4)))))))
  sSkip)
  (sSeq (sCall 39 [(eP (pL 3 0)), (eP (pI 6))])
  (sSeq (sSt 1 4 (eCall 49 [(eP (pL 3 0))]))
  (sRet 1 (eCall 30 [(eP (p1 (oGf 2 2 3) (pL 3 0))), (eP (pI 5)), (eP (p2 oIald (p1 (oGf 4 4 3) (p1 (oGf 2 0 3) (pL 3 0))) (pL 1 1))), (eP (pL 1 2)), (eP (pL 1 4)), (eP (pI 0))]))))))))))
theorem k_51 : b_51.1.1 x_51 (0, true, []) = some ((114, false, []), [], []) := by decide +kernel
/-- LazyForms$Reader.choice -/
def i_52 : List (Nat × Instr × Nat) := [(0, .aload_n 0, 1), (1, .getfield 35, 3), (4, .istore_n 1, 1), (5, .aload_n 0, 1), (6, .dup, 1), (7, .getfield 35, 3), (10, .iconst 1, 1), (11, .iadd, 1), (12, .putfield 35, 3), (15, .aload_n 0, 1), (16, .invokevirtual 99, 3), (19, .istore_n 2, 1), (20, .aload_n 0, 1), (21, .bipush 8, 2), (23, .invokevirtual 128, 3), (26, .aload_n 0, 1), (27, .bipush 11, 2), (29, .invokevirtual 128, 3), (32, .aload_n 0, 1), (33, .invokevirtual 167, 3), (36, .istore_n 3, 1), (37, .iload_n 3, 1), (38, .istore 4, 2), (40, .aload_n 0, 1), (41, .bipush 13, 2), (43, .invokevirtual 52, 3), (46, .ifCond .eq 28, 3), (49, .aload_n 0, 1), (50, .invokevirtual 167, 3), (53, .istore 5, 2), (55, .aload_n 0, 1), (56, .getfield 59, 3), (59, .getfield 125, 3), (62, .iload 4, 2), (64, .iload 5, 2), (66, .iastore, 1), (67, .iload 5, 2), (69, .istore 4, 2), (71, .goto (-31), 3), (74, .aload_n 0, 1), (75, .bipush 12, 2), (77, .invokevirtual 128, 3), (80, .aload_n 0, 1), (81, .getfield 59, 3), (84, .bipush 7, 2), (86, .aload_n 0, 1), (87, .getfield 12, 3), (90, .getfield 46, 3), (93, .iload_n 1, 1), (94, .iaload, 1), (95, .iload_n 2, 1), (96, .iload_n 3, 1), (97, .iconst 0, 1), (98, .invokevirtual 134, 3), (101, .ireturn, 1)]
def x_52 : zCx := (2, false, 1, zCode i_52, [])
def b_52 : zS := (sSeq (sSt 1 1 (eP (p1 (oGf 2 4 1) (pL 3 0))))
  (sSeq (sPfo (eP (pL 3 0)) 2 4 1 oAdd (eP (pI 1)))
  (sSeq (sSt 1 2 (eCall 49 [(eP (pL 3 0))]))
  (sSeq (sCall 39 [(eP (pL 3 0)), (eP (pI 8))])
  (sSeq (sCall 39 [(eP (pL 3 0)), (eP (pI 11))])
  (sSeq (sSt 1 3 (eCall 53 [(eP (pL 3 0))]))
  (sSeq (sSt 1 4 (eP (pL 1 3)))
  (sSeq (sWh (c0 .ne (eCall 37 [(eP (pL 3 0)), (eP (pI 13))]))
  (sBlk 5 (sSeq (sSt 1 5 (eCall 53 [(eP (pL 3 0))]))
  (sSeq (sSe 1 (eP (p1 (oGf 5 6 3) (p1 (oGf 2 2 3) (pL 3 0)))) (eP (pL 1 4)) (eP (pL 1 5)))
  (sSt 1 4 (eP (pL 1 5))))))
  sSkip)
  (sSeq (sCall 39 [(eP (pL 3 0)), (eP (pI 12))])
  (sRet 1 (eCall 30 [(eP (p1 (oGf 2 2 3) (pL 3 0))), (eP (pI 7)), (eP (p2 oIald (p1 (oGf 4 4 3) (p1 (oGf 2 0 3) (pL 3 0))) (pL 1 1))), (eP (pL 1 2)), (eP (pL 1 3)), (eP (pI 0))])))))))))))
theorem k_52 : b_52.1.1 x_52 (0, true, []) = some ((102, false, []), [], []) := by decide +kernel
/-- LazyForms$Reader.alt -/
def i_53 : List (Nat × Instr × Nat) := [(0, .aload_n 0, 1), (1, .getfield 35, 3), (4, .istore_n 1, 1), (5, .iconst 3, 1), (6, .istore_n 2, 1), (7, .iconst 0, 1), (8, .istore_n 3, 1), (9, .iconst (-1), 1), (10, .istore 4, 2), (12, .aload_n 0, 1), (13, .iconst 3, 1), (14, .invokevirtual 39, 3), (17, .ifCond .eq 81, 3), (20, .iconst 0, 1), (21, .istore_n 2, 1), (22, .aload_n 0, 1), (23, .invokevirtual 170, 3), (26, .istore_n 3, 1), (27, .aload_n 0, 1), (28, .dup, 1), (29, .getfield 35, 3), (32, .iconst 1, 1), (33, .iadd, 1), (34, .putfield 35, 3), (37, .iconst (-1), 1), (38, .istore 5, 2), (40, .aload_n 0, 1), (41, .iconst 2, 1), (42, .invokevirtual 39, 3), (45, .ifCond .ne 12, 3), (48, .aload_n 0, 1), (49, .bipush 24, 2), (51, .invokevirtual 39, 3), (54, .ifCond .eq 41, 3), (57, .aload_n 0, 1), (58, .invokevirtual 131, 3), (61, .istore 6, 2), (63, .iload 5, 2), (65, .iconst (-1), 1), (66, .if_icmp .ne 10, 3), (69, .iload 6, 2), (71, .istore 4, 2), (73, .goto 15, 3), (76, .aload_n 0, 1), (77, .getfield 59, 3), (80, .getfield 125, 3), (83, .iload 5, 2), (85, .iload 6, 2), (87, .iastore, 1), (88, .iload 6, 2), (90, .istore 5, 2), (92, .goto (-52), 3), (95, .goto 113, 3), (98, .aload_n 0, 1), (99, .bipush 18, 2), (101, .invokevirtual 39, 3), (104, .ifCond .ne 11, 3), (107, .aload_n 0, 1), (108, .iconst 4, 1), (109, .invokevirtual 39, 3), (112, .ifCond .eq 71, 3), (115, .iconst 1, 1), (116, .istore_n 2, 1), (117, .aload_n 0, 1), (118, .bipush 18, 2), (120, .invokevirtual 52, 3), (123, .istore 5, 2), (125, .aload_n 0, 1), (126, .iconst 4, 1), (127, .invokevirtual 39, 3), (130, .ifCond .ne 8, 3), (133, .aload_n 0, 1), (134, .iconst 1, 1), (135, .invokevirtual 55, 3), (138, .iload 5, 2), (140, .ifCond .eq 18, 3), (143, .aload_n 0, 1), (144, .getfield 12, 3), (147, .aload_n 0, 1), (148, .getfield 35, 3), (151, .invokevirtual 173, 3), (154, .ineg, 1), (155, .goto 14, 3), (158, .aload_n 0, 1), (159, .getfield 12, 3), (162, .aload_n 0, 1), (163, .getfield 35, 3), (166, .invokevirtual 173, 3), (169, .istore_n 3, 1), (170, .aload_n 0, 1), (171, .dup, 1), (172, .getfield 35, 3), (175, .iconst 1, 1), (176, .iadd, 1), (177, .putfield 35, 3), (180, .goto 28, 3), (183, .aload_n 0, 1), (184, .iconst 2, 1), (185, .invokevirtual 39, 3), (188, .ifCond .eq 14, 3), (191, .iconst 2, 1), (192, .istore_n 2, 1), (193, .aload_n 0, 1), (194, .invokevirtual 131, 3), (197, .istore 4, 2), (199, .goto 9, 3), (202, .aload_n 0, 1), (203, .bipush 24, 2), (205, .invokevirtual 128, 3), (208, .aload_n 0, 1), (209, .bipush 15, 2), (211, .invokevirtual 128, 3), (214, .aload_n 0, 1), (215, .invokevirtual 99, 3), (218, .istore 5, 2), (220, .aload_n 0, 1), (221, .getfield 59, 3), (224, .bipush 8, 2), (226, .iload_n 3, 1), (227, .iload_n 2, 1), (228, .iload 4, 2), (230, .iload 5, 2), (232, .invokevirtual 134, 3), (235, .istore 6, 2), (237, .aload_n 0, 1), (238, .getfield 59, 3), (241, .getfield 138, 3), (244, .iload 6, 2), (246, .iload_n 1, 1), (247, .iastore, 1), (248, .iload 6, 2), (250, .ireturn, 1)]
def x_53 : zCx := (2, false, 1, zCode i_53, [])
def b_53 : zS := (sSeq (sSt 1 1 (eP (p1 (oGf 2 4 1) (pL 3 0))))
  (sSeq (sSt 1 2 (eP (pI 3)))
  (sSeq (sSt 1 3 (eP (pI 0)))
  (sSeq (sSt 1 4 (eP (pI (-1))))
  (sSeq (sIfE (c0 .ne (eCall 36 [(eP (pL 3 0)), (eP (pI 3))]))
  (sBlk 5 (sSeq (sSt 1 2 (eP (pI 0)))
  (sSeq (sSt 1 3 (eCall 54 [(eP (pL 3 0))]))
  (sSeq (sPfo (eP (pL 3 0)) 2 4 1 oAdd (eP (pI 1)))
  (sSeq (sSt 1 5 (eP (pI (-1))))
  (sWh (cOr (c0 .ne (eCall 36 [(eP (pL 3 0)), (eP (pI 2))])) (c0 .ne (eCall 36 [(eP (pL 3 0)), (eP (pI 24))])))
  (sBlk 6 (sSeq (sSt 1 6 (eCall 45 [(eP (pL 3 0))]))
  (sSeq (sIfE (cP (kI .eq (pL 1 5) (pI (-1))))
  (sSt 1 4 (eP (pL 1 6)))
  (sSe 1 (eP (p1 (oGf 5 6 3) (p1 (oGf 2 2 3) (pL 3 0)))) (eP (pL 1 5)) (eP (pL 1 6))))
  (sSt 1 5 (eP (pL 1 6))))))
  sSkip))))))
  (sIfE (cOr (c0 .ne (eCall 36 [(eP (pL 3 0)), (eP (pI 18))])) (c0 .ne (eCall 36 [(eP (pL 3 0)), (eP (pI 4))])))
  (sBlk 5 (sSeq (sSt 1 2 (eP (pI 1)))
  (sSeq (sSt 1 5 (eCall 37 [(eP (pL 3 0)), (eP (pI 18))]))
  (sSeq (sIf (cNot (c0 .ne (eCall 36 [(eP (pL 3 0)), (eP (pI 4))])))
  (sCall 38 [(eP (pL 3 0)), (eP (pI 1))]))
  (sSeq (sSt 1 3 (eIte (cP (k0 .ne (pL 1 5))) (e1 oNeg (eCall 26 [(eP (p1 (oGf 2 0 3) (pL 3 0))), (eP (p1 (oGf 2 4 1) (pL 3 0)))])) (eCall 26 [(eP (p1 (oGf 2 0 3) (pL 3 0))), (eP (p1 (oGf 2 4 1) (pL 3 0)))])))
  (sPfo (eP (pL 3 0)) 2 4 1 oAdd (eP (pI 1))))))))
  (sIfE (c0 .ne (eCall 36 [(eP (pL 3 0)), (eP (pI 2))]))
  (sSeq (sSt 1 2 (eP (pI 2)))
  (sSt 1 4 (eCall 45 [(eP (pL 3 0))])))
  (sCall 39 [(eP (pL 3 0)), (eP (pI 24))]))))
  (sSeq (sCall 39 [(eP (pL 3 0)), (eP (pI 15))])
  (sSeq (sSt 1 5 (eCall 49 [(eP (pL 3 0))]))
  (sSeq (sSt 1 6 (eCall 30 [(eP (p1 (oGf 2 2 3) (pL 3 0))), (eP (pI 8)), (eP (pL 1 3)), (eP (pL 1 2)), (eP (pL 1 4)), (eP (pL 1 5))]))
  (sSeq (sSe 1 (eP (p1 (oGf 5 7 3) (p1 (oGf 2 2 3) (pL 3 0)))) (eP (pL 1 6)) (eP (pL 1 1)))
  (sRet 1 (eP (pL 1 6))))))))))))
theorem k_53 : b_53.1.1 x_53 (0, true, []) = some ((251, false, []), [], []) := by decide +kernel
/-- LazyForms$Reader.maker -/
def i_54 : List (Nat × Instr × Nat) := [(0, .aload_n 0, 1), (1, .getfield 12, 3), (4, .getfield 46, 3), (7, .aload_n 0, 1), (8, .getfield 35, 3), (11, .iaload, 1), (12, .istore_n 1, 1), (13, .aload_n 0, 1), (14, .getfield 63, 3), (17, .aload_n 0, 1), (18, .getfield 12, 3), (21, .getfield 176, 3), (24, .iload_n 1, 1), (25, .aload_n 0, 1), (26, .getfield 12, 3), (29, .getfield 179, 3), (32, .aload_n 0, 1), (33, .getfield 35, 3), (36, .iaload, 1), (37, .invokevirtual 182, 3), (40, .istore_n 2, 1), (41, .iload_n 2, 1), (42, .iconst (-1), 1), (43, .if_icmp .eq 5, 3), (46, .iload_n 2, 1), (47, .ireturn, 1), (48, .aload_n 0, 1), (49, .getfield 59, 3), (52, .aload_n 0, 1), (53, .getfield 12, 3), (56, .getfield 176, 3), (59, .iload_n 1, 1), (60, .aload_n 0, 1), (61, .getfield 12, 3), (64, .getfield 179, 3), (67, .aload_n 0, 1), (68, .getfield 35, 3), (71, .iaload, 1), (72, .invokevirtual 182, 3), (75, .istore_n 2, 1), (76, .iload_n 2, 1), (77, .iconst (-1), 1), (78, .if_icmp .ne 31, 3), (81, .aload_n 0, 1), (82, .getfield 59, 3), (85, .aload_n 0, 1), (86, .getfield 12, 3), (89, .getfield 176, 3), (92, .iload_n 1, 1), (93, .aload_n 0, 1), (94, .getfield 12, 3), (97, .getfield 179, 3), (100, .aload_n 0, 1), (101, .getfield 35, 3), (104, .iaload, 1), (105, .invokevirtual 86, 3), (108, .istore_n 2, 1), (109, .aload_n 0, 1), (110, .getfield 59, 3), (113, .aload_n 0, 1), (114, .getfield 63, 3), (117, .if_acmp .ne 7, 3), (120, .iload_n 2, 1), (121, .goto 8, 3), (124, .sipush 1000, 3), (127, .iload_n 2, 1), (128, .iadd, 1), (129, .ireturn, 1)]
def x_54 : zCx := (2, false, 1, zCode i_54, [])
def b_54 : zS := (sSeq (sSt 1 1 (eP (p2 oIald (p1 (oGf 4 4 3) (p1 (oGf 2 0 3) (pL 3 0))) (p1 (oGf 2 4 1) (pL 3 0)))))
  (sSeq (sSt 1 2 (eCall 31 [(eP (p1 (oGf 2 3 3) (pL 3 0))), (eP (p1 (oGf 4 0 3) (p1 (oGf 2 0 3) (pL 3 0)))), (eP (pL 1 1)), (eP (p2 oIald (p1 (oGf 4 5 3) (p1 (oGf 2 0 3) (pL 3 0))) (p1 (oGf 2 4 1) (pL 3 0))))]))
  (sSeq (sIf (cP (kI .ne (pL 1 2) (pI (-1))))
  (sRet 1 (eP (pL 1 2))))
  (sSeq (sSt 1 2 (eCall 31 [(eP (p1 (oGf 2 2 3) (pL 3 0))), (eP (p1 (oGf 4 0 3) (p1 (oGf 2 0 3) (pL 3 0)))), (eP (pL 1 1)), (eP (p2 oIald (p1 (oGf 4 5 3) (p1 (oGf 2 0 3) (pL 3 0))) (p1 (oGf 2 4 1) (pL 3 0))))]))
  (sSeq (sIf (cP (kI .eq (pL 1 2) (pI (-1))))
  (sSt 1 2 (eCall 32 [(eP (p1 (oGf 2 2 3) (pL 3 0))), (eP (p1 (oGf 4 0 3) (p1 (oGf 2 0 3) (pL 3 0)))), (eP (pL 1 1)), (eP (p2 oIald (p1 (oGf 4 5 3) (p1 (oGf 2 0 3) (pL 3 0))) (p1 (oGf 2 4 1) (pL 3 0))))])))
  (sRet 1 (eP (pIte (kA true (p1 (oGf 2 2 3) (pL 3 0)) (p1 (oGf 2 3 3) (pL 3 0))) (pL 1 2) (p2 oAdd (pI 1000) (pL 1 2))))))))))
theorem k_54 : b_54.1.1 x_54 (0, true, []) = some ((130, false, []), [], []) := by decide +kernel
/-- LazyForms$Reader.compare -/
def i_55 : List (Nat × Instr × Nat) := [(0, .aload_n 0, 1), (1, .invokevirtual 185, 3), (4, .istore_n 1, 1), (5, .aload_n 0, 1), (6, .bipush 21, 2), (8, .invokevirtual 39, 3), (11, .ifCond .ne 23, 3), (14, .aload_n 0, 1), (15, .bipush 22, 2), (17, .invokevirtual 39, 3), (20, .ifCond .ne 14, 3), (23, .aload_n 0, 1), (24, .bipush 23, 2), (26, .invokevirtual 39, 3), (29, .ifCond .ne 5, 3), (32, .iload_n 1, 1), (33, .ireturn, 1), (34, .aload_n 0, 1), (35, .getfield 35, 3), (38, .istore_n 2, 1), (39, .aload_n 0, 1), (40, .dup, 1), (41, .getfield 35, 3), (44, .iconst 1, 1), (45, .iadd, 1), (46, .putfield 35, 3), (49, .aload_n 0, 1), (50, .invokevirtual 185, 3), (53, .istore_n 3, 1), (54, .aload_n 0, 1), (55, .getfield 59, 3), (58, .bipush 10, 2), (60, .aload_n 0, 1), (61, .getfield 12, 3), (64, .getfield 46, 3), (67, .iload_n 2, 1), (68, .iaload, 1), (69, .iload_n 1, 1), (70, .iload_n 3, 1), (71, .aload_n 0, 1), (72, .getfield 12, 3), (75, .getfield 32, 3), (78, .iload_n 2, 1), (79, .iaload, 1), (80, .invokevirtual 134, 3), (83, .ireturn, 1)]
def x_55 : zCx := (2, false, 1, zCode i_55, [])
def b_55 : zS := (sSeq (sSt 1 1 (eCall 56 [(eP (pL 3 0))]))
  (sSeq (sIf (cAnd (cAnd (cNot (c0 .ne (eCall 36 [(eP (pL 3 0)), (eP (pI 21))]))) (cNot (c0 .ne (eCall 36 [(eP (pL 3 0)), (eP (pI 22))])))) (cNot (c0 .ne (eCall 36 [(eP (pL 3 0)), (eP (pI 23))]))))
  (sRet 1 (eP (pL 1 1))))
  (sSeq (sSt 1 2 (eP (p1 (oGf 2 4 1) (pL 3 0))))
  (sSeq (sPfo (eP (pL 3 0)) 2 4 1 oAdd (eP (pI 1)))
  (sSeq (sSt 1 3 (eCall 56 [(eP (pL 3 0))]))
  (sRet 1 (eCall 30 [(eP (p1 (oGf 2 2 3) (pL 3 0))), (eP (pI 10)), (eP (p2 oIald (p1 (oGf 4 4 3) (p1 (oGf 2 0 3) (pL 3 0))) (pL 1 2))), (eP (pL 1 1)), (eP (pL 1 3)), (eP (p2 oIald (p1 (oGf 4 3 3) (p1 (oGf 2 0 3) (pL 3 0))) (pL 1 2)))])))))))
theorem k_55 : b_55.1.1 x_55 (0, true, []) = some ((84, false, []), [], []) := by decide +kernel
/-- LazyForms$Reader.sum -/
def i_56 : List (Nat × Instr × Nat) := [(0, .aload_n 0, 1), (1, .invokevirtual 188, 3), (4, .istore_n 1, 1), (5, .aload_n 0, 1), (6, .bipush 17, 2), (8, .invokevirtual 39, 3), (11, .ifCond .ne 12, 3), (14, .aload_n 0, 1), (15, .bipush 18, 2), (17, .invokevirtual 39, 3), (20, .ifCond .eq 56, 3), (23, .aload_n 0, 1), (24, .getfield 35, 3), (27, .istore_n 2, 1), (28, .aload_n 0, 1), (29, .dup, 1), (30, .getfield 35, 3), (33, .iconst 1, 1), (34, .iadd, 1), (35, .putfield 35, 3), (38, .aload_n 0, 1), (39, .invokevirtual 188, 3), (42, .istore_n 3, 1), (43, .aload_n 0, 1), (44, .getfield 59, 3), (47, .bipush 10, 2), (49, .aload_n 0, 1), (50, .getfield 12, 3), (53, .getfield 46, 3), (56, .iload_n 2, 1), (57, .iaload, 1), (58, .iload_n 1, 1), (59, .iload_n 3, 1), (60, .aload_n 0, 1), (61, .getfield 12, 3), (64, .getfield 32, 3), (67, .iload_n 2, 1), (68, .iaload, 1), (69, .invokevirtual 134, 3), (72, .istore_n 1, 1), (73, .goto (-68), 3), (76, .iload_n 1, 1), (77, .ireturn, 1)]
def x_56 : zCx := (2, false, 1, zCode i_56, [])
def b_56 : zS := (sSeq (sSt 1 1 (eCall 57 [(eP (pL 3 0))]))
  (sSeq (sWh (cOr (c0 .ne (eCall 36 [(eP (pL 3 0)), (eP (pI 17))])) (c0 .ne (eCall 36 [(eP (pL 3 0)), (eP (pI 18))])))
  (sBlk 2 (sSeq (sSt 1 2 (eP (p1 (oGf 2 4 1) (pL 3 0))))
  (sSeq (sPfo (eP (pL 3 0)) 2 4 1 oAdd (eP (pI 1)))
  (sSeq (sSt 1 3 (eCall 57 [(eP (pL 3 0))]))
  (sSt 1 1 (eCall 30 [(eP (p1 (oGf 2 2 3) (pL 3 0))), (eP (pI 10)), (eP (p2 oIald (p1 (oGf 4 4 3) (p1 (oGf 2 0 3) (pL 3 0))) (pL 1 2))), (eP (pL 1 1)), (eP (pL 1 3)), (eP (p2 oIald (p1 (oGf 4 3 3) (p1 (oGf 2 0 3) (pL 3 0))) (pL 1 2)))]))))))
  sSkip)
  (sRet 1 (eP (pL 1 1)))))
theorem k_56 : b_56.1.1 x_56 (0, true, []) = some ((78, false, []), [], []) := by decide +kernel
/-- LazyForms$Reader.product -/
def i_57 : List (Nat × Instr × Nat) := [(0, .aload_n 0, 1), (1, .invokevirtual 191, 3), (4, .istore_n 1, 1), (5, .aload_n 0, 1), (6, .bipush 19, 2), (8, .invokevirtual 39, 3), (11, .ifCond .ne 12, 3), (14, .aload_n 0, 1), (15, .bipush 20, 2), (17, .invokevirtual 39, 3), (20, .ifCond .eq 56, 3), (23, .aload_n 0, 1), (24, .getfield 35, 3), (27, .istore_n 2, 1), (28, .aload_n 0, 1), (29, .dup, 1), (30, .getfield 35, 3), (33, .iconst 1, 1), (34, .iadd, 1), (35, .putfield 35, 3), (38, .aload_n 0, 1), (39, .invokevirtual 191, 3), (42, .istore_n 3, 1), (43, .aload_n 0, 1), (44, .getfield 59, 3), (47, .bipush 10, 2), (49, .aload_n 0, 1), (50, .getfield 12, 3), (53, .getfield 46, 3), (56, .iload_n 2, 1), (57, .iaload, 1), (58, .iload_n 1, 1), (59, .iload_n 3, 1), (60, .aload_n 0, 1), (61, .getfield 12, 3), (64, .getfield 32, 3), (67, .iload_n 2, 1), (68, .iaload, 1), (69, .invokevirtual 134, 3), (72, .istore_n 1, 1), (73, .goto (-68), 3), (76, .iload_n 1, 1), (77, .ireturn, 1)]
def x_57 : zCx := (2, false, 1, zCode i_57, [])
def b_57 : zS := (sSeq (sSt 1 1 (eCall 58 [(eP (pL 3 0))]))
  (sSeq (sWh (cOr (c0 .ne (eCall 36 [(eP (pL 3 0)), (eP (pI 19))])) (c0 .ne (eCall 36 [(eP (pL 3 0)), (eP (pI 20))])))
  (sBlk 2 (sSeq (sSt 1 2 (eP (p1 (oGf 2 4 1) (pL 3 0))))
  (sSeq (sPfo (eP (pL 3 0)) 2 4 1 oAdd (eP (pI 1)))
  (sSeq (sSt 1 3 (eCall 58 [(eP (pL 3 0))]))
  (sSt 1 1 (eCall 30 [(eP (p1 (oGf 2 2 3) (pL 3 0))), (eP (pI 10)), (eP (p2 oIald (p1 (oGf 4 4 3) (p1 (oGf 2 0 3) (pL 3 0))) (pL 1 2))), (eP (pL 1 1)), (eP (pL 1 3)), (eP (p2 oIald (p1 (oGf 4 3 3) (p1 (oGf 2 0 3) (pL 3 0))) (pL 1 2)))]))))))
  sSkip)
  (sRet 1 (eP (pL 1 1)))))
theorem k_57 : b_57.1.1 x_57 (0, true, []) = some ((78, false, []), [], []) := by decide +kernel
/-- LazyForms$Reader.use -/
def i_58 : List (Nat × Instr × Nat) := [(0, .aload_n 0, 1), (1, .getfield 35, 3), (4, .istore_n 1, 1), (5, .aload_n 0, 1), (6, .iconst 3, 1), (7, .invokevirtual 39, 3), (10, .istore_n 2, 1), (11, .aload_n 0, 1), (12, .invokevirtual 194, 3), (15, .istore_n 3, 1), (16, .iconst (-1), 1), (17, .istore 4, 2), (19, .iconst (-1), 1), (20, .istore 5, 2), (22, .iconst 0, 1), (23, .istore 6, 2), (25, .aload_n 0, 1), (26, .invokevirtual 148, 3), (29, .ifCond .eq 75, 3), (32, .aload_n 0, 1), (33, .getfield 35, 3), (36, .istore 7, 2), (38, .aload_n 0, 1), (39, .invokevirtual 194, 3), (42, .istore 8, 2), (44, .aload_n 0, 1), (45, .getfield 59, 3), (48, .bipush 9, 2), (50, .aload_n 0, 1), (51, .getfield 12, 3), (54, .getfield 46, 3), (57, .iload 7, 2), (59, .iaload, 1), (60, .iload 8, 2), (62, .iconst 0, 1), (63, .iconst 0, 1), (64, .invokevirtual 134, 3), (67, .istore 9, 2), (69, .iload 5, 2), (71, .iconst (-1), 1), (72, .if_icmp .ne 10, 3), (75, .iload 9, 2), (77, .istore 4, 2), (79, .goto 15, 3), (82, .aload_n 0, 1), (83, .getfield 59, 3), (86, .getfield 125, 3), (89, .iload 5, 2), (91, .iload 9, 2), (93, .iastore, 1), (94, .iload 9, 2), (96, .istore 5, 2), (98, .iinc 6 1, 3), (101, .goto (-76), 3), (104, .iload 6, 2), (106, .ifCond .ne 5, 3), (109, .iload_n 3, 1), (110, .ireturn, 1), (111, .iload_n 2, 1), (112, .ifCond .eq 27, 3), (115, .aload_n 0, 1), (116, .getfield 59, 3), (119, .getfield 141, 3), (122, .iload_n 3, 1), (123, .iload 4, 2), (125, .iastore, 1), (126, .aload_n 0, 1), (127, .getfield 59, 3), (130, .getfield 197, 3), (133, .iload_n 3, 1), (134, .iload 6, 2), (136, .iastore, 1), (137, .iload_n 3, 1), (138, .ireturn, 1), (139, .aload_n 0, 1), (140, .getfield 59, 3), (143, .iconst 3, 1), (144, .aload_n 0, 1), (145, .getfield 12, 3), (148, .getfield 46, 3), (151, .iload_n 1, 1), (152, .iaload, 1), (153, .iload_n 3, 1), (154, .iload 4, 2), (156, .iload 6, 2), (158, .invokevirtual 134, 3), (161, .ireturn, 1)]
def x_58 : zCx := (2, false, 1, zCode i_58, [])
def b_58 : zS := (sSeq (sSt 1 1 (eP (p1 (oGf 2 4 1) (pL 3 0))))
  (sSeq (sSt 1 2 (eCall 36 [(eP (pL 3 0)), (eP (pI 3))]))
  (sSeq (sSt 1 3 (eCall 59 [(eP (pL 3 0))]))
  (sSeq (sSt 1 4 (eP (pI (-1))))
  (sSeq (sSt 1 5 (eP (pI (-1))))
  (sSeq (sSt 1 6 (eP (pI 0)))
  (sSeq (sWh (c0 .ne (eCall 48 [(eP (pL 3 0))]))
  (sBlk 7 (sSeq (sSt 1 7 (eP (p1 (oGf 2 4 1) (pL 3 0))))
  (sSeq (sSt 1 8 (eCall 59 [(eP (pL 3 0))]))
  (sSeq (sSt 1 9 (eCall 30 [(eP (p1 (oGf 2 2 3) (pL 3 0))), (eP (pI 9)), (eP (p2 oIald (p1 (oGf 4 4 3) (p1 (oGf 2 0 3) (pL 3 0))) (pL 1 7))), (eP (pL 1 8)), (eP (pI 0)), (eP (pI 0))]))
  (sSeq (sIfE (cP (kI .eq (pL 1 5) (pI (-1))))
  (sSt 1 4 (eP (pL 1 9)))
  (sSe 1 (eP (p1 (oGf 5 6 3) (p1 (oGf 2 2 3) (pL 3 0)))) (eP (pL 1 5)) (eP (pL 1 9))))
  (sSeq (sSt 1 5 (eP (pL 1 9)))
  (sInc 6 1)))))))
  sSkip)
  (sSeq (sIf (cP (k0 .eq (pL 1 6)))
  (sRet 1 (eP (pL 1 3))))
  (sSeq (sIf (cP (k0 .ne (pL 1 2)))
  (sSeq (sSe 1 (eP (p1 (oGf 5 3 3) (p1 (oGf 2 2 3) (pL 3 0)))) (eP (pL 1 3)) (eP (pL 1 4)))
  (sSeq (sSe 1 (eP (p1 (oGf 5 4 3) (p1 (oGf 2 2 3) (pL 3 0)))) (eP (pL 1 3)) (eP (pL 1 6)))
  (sRet 1 (eP (pL 1 3))))))
  (sRet 1 (eCall 30 [(eP (p1 (oGf 2 2 3) (pL 3 0))), (eP (pI 3)), (eP (p2 oIald (p1 (oGf 4 4 3) (p1 (oGf 2 0 3) (pL 3 0))) (pL 1 1))), (eP (pL 1 3)), (eP (pL 1 4)), (eP (pL 1 6))])))))))))))
theorem k_58 : b_58.1.1 x_58 (0, true, []) = some ((162, false, []), [], []) := by decide +kernel
/-- LazyForms$Reader.atom -/
def i_59 : List (Nat × Instr × Nat) := [(0, .aload_n 0, 1), (1, .getfield 35, 3), (4, .istore_n 1, 1), (5, .aload_n 0, 1), (6, .iconst 2, 1), (7, .invokevirtual 39, 3), (10, .ifCond .eq 46, 3), (13, .aload_n 0, 1), (14, .dup, 1), (15, .getfield 35, 3), (18, .iconst 1, 1), (19, .iadd, 1), (20, .putfield 35, 3), (23, .aload_n 0, 1), (24, .getfield 59, 3), (27, .iconst 0, 1), (28, .aload_n 0, 1), (29, .getfield 12, 3), (32, .getfield 46, 3), (35, .iload_n 1, 1), (36, .iaload, 1), (37, .iconst 0, 1), (38, .iconst 0, 1), (39, .iconst 0, 1), (40, .invokevirtual 134, 3), (43, .istore_n 2, 1), (44, .aload_n 0, 1), (45, .getfield 59, 3), (48, .getfield 138, 3), (51, .iload_n 2, 1), (52, .iload_n 1, 1), (53, .iastore, 1), (54, .iload_n 2, 1), (55, .ireturn, 1), (56, .aload_n 0, 1), (57, .iconst 4, 1), (58, .invokevirtual 39, 3), (61, .ifCond .eq 41, 3), (64, .aload_n 0, 1), (65, .dup, 1), (66, .getfield 35, 3), (69, .iconst 1, 1), (70, .iadd, 1), (71, .putfield 35, 3), (74, .aload_n 0, 1), (75, .getfield 59, 3), (78, .iconst 1, 1), (79, .aload_n 0, 1), (80, .getfield 12, 3), (83, .getfield 46, 3), (86, .iload_n 1, 1), (87, .iaload, 1), (88, .aload_n 0, 1), (89, .getfield 12, 3), (92, .iload_n 1, 1), (93, .invokevirtual 173, 3), (96, .iconst 0, 1), (97, .iconst 0, 1), (98, .invokevirtual 134, 3), (101, .ireturn, 1), (102, .aload_n 0, 1), (103, .iconst 3, 1), (104, .invokevirtual 39, 3), (107, .ifCond .eq 39, 3), (110, .aload_n 0, 1), (111, .invokevirtual 170, 3), (114, .istore_n 2, 1), (115, .aload_n 0, 1), (116, .dup, 1), (117, .getfield 35, 3), (120, .iconst 1, 1), (121, .iadd, 1), (122, .putfield 35, 3), (125, .aload_n 0, 1), (126, .getfield 59, 3), (129, .iconst 2, 1), (130, .aload_n 0, 1), (131, .getfield 12, 3), (134, .getfield 46, 3), (137, .iload_n 1, 1), (138, .iaload, 1), (139, .iload_n 2, 1), (140, .iconst (-1), 1), (141, .iconst 0, 1), (142, .invokevirtual 134, 3), (145, .ireturn, 1), (146, .aload_n 0, 1), (147, .bipush 9, 2), (149, .invokevirtual 128, 3), (152, .aload_n 0, 1), (153, .invokevirtual 99, 3), (156, .istore_n 2, 1), (157, .aload_n 0, 1), (158, .bipush 10, 2), (160, .invokevirtual 128, 3), (163, .iload_n 2, 1), (164, .ireturn, 1)]
def x_59 : zCx := (2, false, 1, zCode i_59, [])
def b_59 : zS := (sSeq (sSt 1 1 (eP (p1 (oGf 2 4 1) (pL 3 0))))
  (sSeq (sIf (c0 .ne (eCall 36 [(eP (pL 3 0)), (eP (pI 2))]))
  (sBlk 2 (sSeq (sPfo (eP (pL 3 0)) 2 4 1 oAdd (eP (pI 1)))
  (sSeq (sSt 1 2 (eCall 30 [(eP (p1 (oGf 2 2 3) (pL 3 0))), (eP (pI 0)), (eP (p2 oIald (p1 (oGf 4 4 3) (p1 (oGf 2 0 3) (pL 3 0))) (pL 1 1))), (eP (pI 0)), (eP (pI 0)), (eP (pI 0))]))
  (sSeq (sSe 1 (eP (p1 (oGf 5 7 3) (p1 (oGf 2 2 3) (pL 3 0)))) (eP (pL 1 2)) (eP (pL 1 1)))
  (sRet 1 (eP (pL 1 2))))))))
  (sSeq (sIf (c0 .ne (eCall 36 [(eP (pL 3 0)), (eP (pI 4))]))
  (sSeq (sPfo (eP (pL 3 0)) 2 4 1 oAdd (eP (pI 1)))
  (sRet 1 (eCall 30 [(eP (p1 (oGf 2 2 3) (pL 3 0))), (eP (pI 1)), (eP (p2 oIald (p1 (oGf 4 4 3) (p1 (oGf 2 0 3) (pL 3 0))) (pL 1 1))), (eCall 26 [(eP (p1 (oGf 2 0 3) (pL 3 0))), (eP (pL 1 1))]), (eP (pI 0)), (eP (pI 0))]))))
  (sSeq (sIf (c0 .ne (eCall 36 [(eP (pL 3 0)), (eP (pI 3))]))
  (sBlk 2 (sSeq (sSt 1 2 (eCall 54 [(eP (pL 3 0))]))
  (sSeq (sPfo (eP (pL 3 0)) 2 4 1 oAdd (eP (pI 1)))
  (sRet 1 (eCall 30 [(eP (p1 (oGf 2 2 3) (pL 3 0))), (eP (pI 2)), (eP (p2 oIald (p1 (oGf 4 4 3) (p1 (oGf 2 0 3) (pL 3 0))) (pL 1 1))), (eP (pL 1 2)), (eP (pI (-1))), (eP (pI 0))]))))))
  (sSeq (sCall 39 [(eP (pL 3 0)), (eP (pI 9))])
  (sSeq (sSt 1 2 (eCall 49 [(eP (pL 3 0))]))
  (sSeq (sCall 39 [(eP (pL 3 0)), (eP (pI 10))])
  (sRet 1 (eP (pL 1 2))))))))))
theorem k_59 : b_59.1.1 x_59 (0, true, []) = some ((165, false, []), [], []) := by decide +kernel
/-- LazyForms$Reader.breaks -/
def i_60 : List (Nat × Instr × Nat) := [(0, .aload_n 0, 1), (1, .getfield 43, 3), (4, .ifCond .eq 11, 3), (7, .iload_n 1, 1), (8, .aload_n 0, 1), (9, .getfield 49, 3), (12, .if_icmp .ge 8, 3), (15, .aload_n 0, 1), (16, .iload_n 1, 1), (17, .putfield 49, 3), (20, .aload_n 0, 1), (21, .iconst 2, 1), (22, .putfield 43, 3), (25, .return_, 1)]
def x_60 : zCx := (2, false, 0, zCode i_60, [])
def b_60 : zS := (sSeq (sSeq (sIf (cP (kOr (k0 .eq (p1 (oGf 2 6 1) (pL 3 0))) (kI .lt (pL 1 1) (p1 (oGf 2 7 1) (pL 3 0)))))
  (sPf (eP (pL 3 0)) 2 7 1 (eP (pL 1 1))))
  (sPf (eP (pL 3 0)) 2 6 1 (eP (pI 2))))
  sRet0)
theorem k_60 : b_60.1.1 x_60 (0, true, []) = some ((26, false, []), [], []) := by decide +kernel
/-- LazyForms$Reader.settle -/
def i_61 : List (Nat × Instr × Nat) := [(0, .aload_n 0, 1), (1, .getfield 59, 3), (4, .getfield 103, 3), (7, .istore_n 1, 1), (8, .iload_n 1, 1), (9, .iconst (-1), 1), (10, .if_icmp .eq 285, 3), (13, .aload_n 0, 1), (14, .getfield 59, 3), (17, .getfield 138, 3), (20, .iload_n 1, 1), (21, .iaload, 1), (22, .istore_n 2, 1), (23, .aload_n 0, 1), (24, .getfield 59, 3), (27, .aload_n 0, 1), (28, .getfield 12, 3), (31, .getfield 176, 3), (34, .aload_n 0, 1), (35, .getfield 12, 3), (38, .getfield 46, 3), (41, .iload_n 2, 1), (42, .iaload, 1), (43, .aload_n 0, 1), (44, .getfield 12, 3), (47, .getfield 179, 3), (50, .iload_n 2, 1), (51, .iaload, 1), (52, .invokevirtual 200, 3), (55, .iconst (-1), 1), (56, .if_icmp .ne 15, 3), (59, .aload_n 0, 1), (60, .getfield 59, 3), (63, .getfield 202, 3), (66, .bipush 40, 2), (68, .if_icmp .ne 19, 3), (71, .aload_n 0, 1), (72, .aload_n 0, 1), (73, .getfield 12, 3), (76, .getfield 46, 3), (79, .iload_n 2, 1), (80, .iaload, 1), (81, .invokevirtual 205, 3), (84, .goto 198, 3), (87, .aload_n 0, 1), (88, .getfield 59, 3), (91, .getfield 202, 3), (94, .istore_n 3, 1), (95, .iconst 0, 1), (96, .istore 4, 2), (98, .iload 4, 2), (100, .aload_n 0, 1), (101, .getfield 12, 3), (104, .getfield 179, 3), (107, .iload_n 2, 1), (108, .iaload, 1), (109, .if_icmp .ge 44, 3), (112, .aload_n 0, 1), (113, .getfield 59, 3), (116, .getfield 208, 3), (119, .bipush 12, 2), (121, .iload_n 3, 1), (122, .imul, 1), (123, .iload 4, 2), (125, .iadd, 1), (126, .aload_n 0, 1), (127, .getfield 12, 3), (130, .getfield 176, 3), (133, .aload_n 0, 1), (134, .getfield 12, 3), (137, .getfield 46, 3), (140, .iload_n 2, 1), (141, .iaload, 1), (142, .iload 4, 2), (144, .iadd, 1), (145, .baload, 1), (146, .bastore, 1), (147, .iinc 4 1, 3), (150, .goto (-52), 3), (153, .aload_n 0, 1), (154, .getfield 59, 3), (157, .getfield 211, 3), (160, .iload_n 3, 1), (161, .aload_n 0, 1), (162, .getfield 12, 3), (165, .getfield 179, 3), (168, .iload_n 2, 1), (169, .iaload, 1), (170, .iastore, 1), (171, .aload_n 0, 1), (172, .getfield 59, 3), (175, .getfield 214, 3), (178, .iload_n 3, 1), (179, .aload_n 0, 1), (180, .getfield 59, 3), (183, .getfield 141, 3), (186, .iload_n 1, 1), (187, .iaload, 1), (188, .iastore, 1), (189, .aload_n 0, 1), (190, .getfield 59, 3), (193, .getfield 216, 3), (196, .iload_n 3, 1), (197, .aload_n 0, 1), (198, .getfield 59, 3), (201, .getfield 219, 3), (204, .aload_n 0, 1), (205, .getfield 59, 3), (208, .getfield 141, 3), (211, .iload_n 1, 1), (212, .iaload, 1), (213, .iaload, 1), (214, .iconst 4, 1), (215, .if_icmp .ne 52, 3), (218, .aload_n 0, 1), (219, .getfield 59, 3), (222, .getfield 222, 3), (225, .aload_n 0, 1), (226, .getfield 59, 3), (229, .getfield 141, 3), (232, .iload_n 1, 1), (233, .iaload, 1), (234, .iaload, 1), (235, .aload_n 0, 1), (236, .getfield 59, 3), (239, .getfield 222, 3), (242, .iload_n 1, 1), (243, .iaload, 1), (244, .if_icmp .ne 23, 3), (247, .aload_n 0, 1), (248, .getfield 59, 3), (251, .getfield 223, 3), (254, .aload_n 0, 1), (255, .getfield 59, 3), (258, .getfield 141, 3), (261, .iload_n 1, 1), (262, .iaload, 1), (263, .iaload, 1), (264, .goto 4, 3), (267, .iconst 0, 1), (268, .iastore, 1), (269, .aload_n 0, 1), (270, .getfield 59, 3), (273, .dup, 1), (274, .getfield 202, 3), (277, .iconst 1, 1), (278, .iadd, 1), (279, .putfield 202, 3), (282, .aload_n 0, 1), (283, .getfield 59, 3), (286, .getfield 125, 3), (289, .iload_n 1, 1), (290, .iaload, 1), (291, .istore_n 1, 1), (292, .goto (-284), 3), (295, .aload_n 0, 1), (296, .getfield 59, 3), (299, .getfield 103, 3), (302, .istore_n 1, 1), (303, .iload_n 1, 1), (304, .iconst (-1), 1), (305, .if_icmp .eq 40, 3), (308, .aload_n 0, 1), (309, .iconst 0, 1), (310, .putfield 106, 3), (313, .aload_n 0, 1), (314, .iconst 0, 1), (315, .putfield 109, 3), (318, .aload_n 0, 1), (319, .aload_n 0, 1), (320, .getfield 59, 3), (323, .getfield 141, 3), (326, .iload_n 1, 1), (327, .iaload, 1), (328, .invokevirtual 115, 3), (331, .istore_n 2, 1), (332, .aload_n 0, 1), (333, .getfield 59, 3), (336, .getfield 125, 3), (339, .iload_n 1, 1), (340, .iaload, 1), (341, .istore_n 1, 1), (342, .goto (-39), 3), (345, .return_, 1)]
def x_61 : zCx := (2, false, 0, zCode i_61, [])
def b_61 : zS := (sSeq (sSeq (sBlk 1 (sSeq (sSt 1 1 (eP (p1 (oGf 5 17 1) (p1 (oGf 2 2 3) (pL 3 0)))))
  (sWh (cP (kI .ne (pL 1 1) (pI (-1))))
  (sBlk 2 (sSeq (sSt 1 2 (eP (p2 oIald (p1 (oGf 5 7 3) (p1 (oGf 2 2 3) (pL 3 0))) (pL 1 1))))
  (sSeq (sIf (cOr (cI .ne (eCall 33 [(eP (p1 (oGf 2 2 3) (pL 3 0))), (eP (p1 (oGf 4 0 3) (p1 (oGf 2 0 3) (pL 3 0)))), (eP (p2 oIald (p1 (oGf 4 4 3) (p1 (oGf 2 0 3) (pL 3 0))) (pL 1 2))), (eP (p2 oIald (p1 (oGf 4 5 3) (p1 (oGf 2 0 3) (pL 3 0))) (pL 1 2)))]) (eP (pI (-1)))) (cP (kI .eq (p1 (oGf 5 16 1) (p1 (oGf 2 2 3) (pL 3 0))) (pI 40))))
  (sSeq (sCall 60 [(eP (pL 3 0)), (eP (p2 oIald (p1 (oGf 4 4 3) (p1 (oGf 2 0 3) (pL 3 0))) (pL 1 2)))])
  (sCnt true)))
  (sSeq (sSt 1 3 (eP (p1 (oGf 5 16 1) (p1 (oGf 2 2 3) (pL 3 0)))))
  (sSeq (sBlk 4 (sSeq (sSt 1 4 (eP (pI 0)))
  (sWh (cP (kI .lt (pL 1 4) (p2 oIald (p1 (oGf 4 5 3) (p1 (oGf 2 0 3) (pL 3 0))) (pL 1 2))))
  (sSe 2 (eP (p1 (oGf 5 12 3) (p1 (oGf 2 2 3) (pL 3 0)))) (eP (p2 oAdd (p2 oMul (pI 12) (pL 1 3)) (pL 1 4))) (eBy (p1 (oGf 4 0 3) (p1 (oGf 2 0 3) (pL 3 0))) (p2 oAdd (p2 oIald (p1 (oGf 4 4 3) (p1 (oGf 2 0 3) (pL 3 0))) (pL 1 2)) (pL 1 4))))
  (sInc 4 1))))
  (sSeq (sSe 1 (eP (p1 (oGf 5 13 3) (p1 (oGf 2 2 3) (pL 3 0)))) (eP (pL 1 3)) (eP (p2 oIald (p1 (oGf 4 5 3) (p1 (oGf 2 0 3) (pL 3 0))) (pL 1 2))))
  (sSeq (sSe 1 (eP (p1 (oGf 5 15 3) (p1 (oGf 2 2 3) (pL 3 0)))) (eP (pL 1 3)) (eP (p2 oIald (p1 (oGf 5 3 3) (p1 (oGf 2 2 3) (pL 3 0))) (pL 1 1))))
  (sSeq (sSe 1 (eP (p1 (oGf 5 14 3) (p1 (oGf 2 2 3) (pL 3 0)))) (eP (pL 1 3)) (eP (pIte (kAnd (kI .eq (p2 oIald (p1 (oGf 5 0 3) (p1 (oGf 2 2 3) (pL 3 0))) (p2 oIald (p1 (oGf 5 3 3) (p1 (oGf 2 2 3) (pL 3 0))) (pL 1 1))) (pI 4)) (kI .eq (p2 oIald (p1 (oGf 5 1 3) (p1 (oGf 2 2 3) (pL 3 0))) (p2 oIald (p1 (oGf 5 3 3) (p1 (oGf 2 2 3) (pL 3 0))) (pL 1 1))) (p2 oIald (p1 (oGf 5 1 3) (p1 (oGf 2 2 3) (pL 3 0))) (pL 1 1)))) (p2 oIald (p1 (oGf 5 2 3) (p1 (oGf 2 2 3) (pL 3 0))) (p2 oIald (p1 (oGf 5 3 3) (p1 (oGf 2 2 3) (pL 3 0))) (pL 1 1))) (pI 0))))
  (sPfo (eP (p1 (oGf 2 2 3) (pL 3 0))) 5 16 1 oAdd (eP (pI 1)))))))))))
  (sSt 1 1 (eP (p2 oIald (p1 (oGf 5 6 3) (p1 (oGf 2 2 3) (pL 3 0))) (pL 1 1)))))))
  (sBlk 1 (sSeq (sSt 1 1 (eP (p1 (oGf 5 17 1) (p1 (oGf 2 2 3) (pL 3 0)))))
  (sWh (cP (kI .ne (pL 1 1) (pI (-1))))
  (sBlk 2 (sSeq (sPf (eP (pL 3 0)) 2 11 1 (eP (pI 0)))
  (sSeq (sPf (eP (pL 3 0)) 2 13 1 (eP (pI 0)))
  (sSt 1 2 (eCall 65 [(eP (pL 3 0)), (eP (p2 oIald (p1 (oGf 5 3 3) (p1 (oGf 2 2 3) (pL 3 0))) (pL 1 1)))])))))
  (sSt 1 1 (eP (p2 oIald (p1 (oGf 5 6 3) (p1 (oGf 2 2 3) (pL 3 0))) (pL 1 1))))))))
  sRet0)
theorem k_61 : b_61.1.1 x_61 (0, true, []) = some ((346, false, []), [], []) := by decide +kernel
/-- LazyForms$Reader.stand -/
def i_62 : List (Nat × Instr × Nat) := [(0, .iload_n 2, 1), (1, .istore_n 3, 1), (2, .iload_n 3, 1), (3, .aload_n 0, 1), (4, .getfield 106, 3), (7, .if_icmp .ge 39, 3), (10, .aload_n 0, 1), (11, .getfield 12, 3), (14, .aload_n 0, 1), (15, .getfield 25, 3), (18, .iload_n 3, 1), (19, .iaload, 1), (20, .iload_n 1, 1), (21, .invokevirtual 226, 3), (24, .ifCond .eq 16, 3), (27, .aload_n 0, 1), (28, .aload_n 0, 1), (29, .getfield 12, 3), (32, .getfield 46, 3), (35, .iload_n 1, 1), (36, .iaload, 1), (37, .invokevirtual 205, 3), (40, .iinc 3 1, 3), (43, .goto (-41), 3), (46, .aload_n 0, 1), (47, .getfield 106, 3), (50, .bipush 16, 2), (52, .if_icmp .lt 16, 3), (55, .aload_n 0, 1), (56, .aload_n 0, 1), (57, .getfield 12, 3), (60, .getfield 46, 3), (63, .iload_n 1, 1), (64, .iaload, 1), (65, .invokevirtual 205, 3), (68, .aload_n 0, 1), (69, .getfield 25, 3), (72, .aload_n 0, 1), (73, .getfield 106, 3), (76, .iload_n 1, 1), (77, .iastore, 1), (78, .aload_n 0, 1), (79, .dup, 1), (80, .getfield 106, 3), (83, .iconst 1, 1), (84, .iadd, 1), (85, .putfield 106, 3), (88, .aload_n 0, 1), (89, .getfield 106, 3), (92, .iconst 1, 1), (93, .isub, 1), (94, .ireturn, 1)]
def x_62 : zCx := (2, false, 1, zCode i_62, [])
def b_62 : zS := (sSeq (sBlk 3 (sSeq (sSt 1 3 (eP (pL 1 2)))
  (sWh (cP (kI .lt (pL 1 3) (p1 (oGf 2 11 1) (pL 3 0))))
  (sIf (c0 .ne (eCall 27 [(eP (p1 (oGf 2 0 3) (pL 3 0))), (eP (p2 oIald (p1 (oGf 2 10 3) (pL 3 0)) (pL 1 3))), (eP (pL 1 1))]))
  (sCall 60 [(eP (pL 3 0)), (eP (p2 oIald (p1 (oGf 4 4 3) (p1 (oGf 2 0 3) (pL 3 0))) (pL 1 1)))]))
  (sInc 3 1))))
  (sSeq (sIf (cP (kI .ge (p1 (oGf 2 11 1) (pL 3 0)) (pI 16)))
  (sCall 60 [(eP (pL 3 0)), (eP (p2 oIald (p1 (oGf 4 4 3) (p1 (oGf 2 0 3) (pL 3 0))) (pL 1 1)))]))
  (sSeq (sSe 1 (eP (p1 (oGf 2 10 3) (pL 3 0))) (eP (p1 (oGf 2 11 1) (pL 3 0))) (eP (pL 1 1)))
  (sSeq (sPfo (eP (pL 3 0)) 2 11 1 oAdd (eP (pI 1)))
  (sRet 1 (eP (p2 oSub (p1 (oGf 2 11 1) (pL 3 0)) (pI 1))))))))
theorem k_62 : b_62.1.1 x_62 (0, true, []) = some ((95, false, []), [], []) := by decide +kernel
/-- LazyForms$Reader.meant -/
def i_63 : List (Nat × Instr × Nat) := [(0, .aload_n 0, 1), (1, .getfield 106, 3), (4, .iconst 1, 1), (5, .isub, 1), (6, .istore_n 2, 1), (7, .iload_n 2, 1), (8, .ifCond .lt 28, 3), (11, .aload_n 0, 1), (12, .getfield 12, 3), (15, .aload_n 0, 1), (16, .getfield 25, 3), (19, .iload_n 2, 1), (20, .iaload, 1), (21, .iload_n 1, 1), (22, .invokevirtual 226, 3), (25, .ifCond .eq 5, 3), (28, .iload_n 2, 1), (29, .ireturn, 1), (30, .iinc 2 (-1), 3), (33, .goto (-26), 3), (36, .aload_n 0, 1), (37, .getfield 63, 3), (40, .aload_n 0, 1), (41, .getfield 12, 3), (44, .getfield 176, 3), (47, .aload_n 0, 1), (48, .getfield 12, 3), (51, .getfield 46, 3), (54, .iload_n 1, 1), (55, .iaload, 1), (56, .aload_n 0, 1), (57, .getfield 12, 3), (60, .getfield 179, 3), (63, .iload_n 1, 1), (64, .iaload, 1), (65, .invokevirtual 200, 3), (68, .istore_n 2, 1), (69, .iload_n 2, 1), (70, .iconst (-1), 1), (71, .if_icmp .ne 24, 3), (74, .aload_n 0, 1), (75, .iload_n 1, 1), (76, .invokevirtual 230, 3), (79, .ifCond .ne 16, 3), (82, .aload_n 0, 1), (83, .aload_n 0, 1), (84, .getfield 12, 3), (87, .getfield 46, 3), (90, .iload_n 1, 1), (91, .iaload, 1), (92, .invokevirtual 205, 3), (95, .iconst (-1), 1), (96, .iload_n 2, 1), (97, .isub, 1), (98, .ireturn, 1)]
def x_63 : zCx := (2, false, 1, zCode i_63, [])
def b_63 : zS := (sSeq (sBlk 2 (sSeq (sSt 1 2 (eP (p2 oSub (p1 (oGf 2 11 1) (pL 3 0)) (pI 1))))
  (sWh (cP (k0 .ge (pL 1 2)))
  (sIf (c0 .ne (eCall 27 [(eP (p1 (oGf 2 0 3) (pL 3 0))), (eP (p2 oIald (p1 (oGf 2 10 3) (pL 3 0)) (pL 1 2))), (eP (pL 1 1))]))
  (sRet 1 (eP (pL 1 2))))
  (sInc 2 (-1)))))
  (sSeq (sSt 1 2 (eCall 33 [(eP (p1 (oGf 2 3 3) (pL 3 0))), (eP (p1 (oGf 4 0 3) (p1 (oGf 2 0 3) (pL 3 0)))), (eP (p2 oIald (p1 (oGf 4 4 3) (p1 (oGf 2 0 3) (pL 3 0))) (pL 1 1))), (eP (p2 oIald (p1 (oGf 4 5 3) (p1 (oGf 2 0 3) (pL 3 0))) (pL 1 1)))]))
  (sSeq (sIf (cAnd (cP (kI .eq (pL 1 2) (pI (-1)))) (cNot (c0 .ne (eCall 64 [(eP (pL 3 0)), (eP (pL 1 1))]))))
  (sCall 60 [(eP (pL 3 0)), (eP (p2 oIald (p1 (oGf 4 4 3) (p1 (oGf 2 0 3) (pL 3 0))) (pL 1 1)))]))
  (sRet 1 (eP (p2 oSub (pI (-1)) (pL 1 2)))))))
theorem k_63 : b_63.1.1 x_63 (0, true, []) = some ((99, false, []), [], []) := by decide +kernel
/-- LazyForms$Reader.isDefined -/
def i_64 : List (Nat × Instr × Nat) := [(0, .aload_n 0, 1), (1, .getfield 59, 3), (4, .aload_n 0, 1), (5, .getfield 63, 3), (8, .if_acmp .eq 5, 3), (11, .iconst 0, 1), (12, .ireturn, 1), (13, .aload_n 0, 1), (14, .getfield 59, 3), (17, .getfield 103, 3), (20, .istore_n 2, 1), (21, .iload_n 2, 1), (22, .iconst (-1), 1), (23, .if_icmp .eq 38, 3), (26, .aload_n 0, 1), (27, .getfield 12, 3), (30, .aload_n 0, 1), (31, .getfield 59, 3), (34, .getfield 138, 3), (37, .iload_n 2, 1), (38, .iaload, 1), (39, .iload_n 1, 1), (40, .invokevirtual 226, 3), (43, .ifCond .eq 5, 3), (46, .iconst 1, 1), (47, .ireturn, 1), (48, .aload_n 0, 1), (49, .getfield 59, 3), (52, .getfield 125, 3), (55, .iload_n 2, 1), (56, .iaload, 1), (57, .istore_n 2, 1), (58, .goto (-37), 3), (61, .iconst 0, 1), (62, .ireturn, 1)]
def x_64 : zCx := (2, false, 4, zCode i_64, [])
def b_64 : zS := (sSeq (sIf (cP (kA false (p1 (oGf 2 2 3) (pL 3 0)) (p1 (oGf 2 3 3) (pL 3 0))))
  (sRet 4 (eP (pI 0))))
  (sSeq (sBlk 2 (sSeq (sSt 1 2 (eP (p1 (oGf 5 17 1) (p1 (oGf 2 2 3) (pL 3 0)))))
  (sWh (cP (kI .ne (pL 1 2) (pI (-1))))
  (sIf (c0 .ne (eCall 27 [(eP (p1 (oGf 2 0 3) (pL 3 0))), (eP (p2 oIald (p1 (oGf 5 7 3) (p1 (oGf 2 2 3) (pL 3 0))) (pL 1 2))), (eP (pL 1 1))]))
  (sRet 4 (eP (pI 1))))
  (sSt 1 2 (eP (p2 oIald (p1 (oGf 5 6 3) (p1 (oGf 2 2 3) (pL 3 0))) (pL 1 2)))))))
  (sRet 4 (eP (pI 0)))))
theorem k_64 : b_64.1.1 x_64 (0, true, []) = some ((63, false, []), [], []) := by decide +kernel
/-- LazyForms$Reader.look -/
def i_65 : List (Nat × Instr × Nat) := [(0, .iconst 0, 1), (1, .istore_n 2, 1), (2, .aload_n 0, 1), (3, .getfield 106, 3), (6, .istore_n 3, 1), (7, .aload_n 0, 1), (8, .getfield 59, 3), (11, .getfield 219, 3), (14, .iload_n 1, 1), (15, .iaload, 1), (16, .tableswitch 246 0 7 #[48, 101, 104, 121, 152, 199, 246, 214], 48), (64, .aload_n 0, 1), (65, .getfield 59, 3), (68, .getfield 223, 3), (71, .iload_n 1, 1), (72, .aload_n 0, 1), (73, .aload_n 0, 1), (74, .getfield 59, 3), (77, .getfield 138, 3), (80, .iload_n 1, 1), (81, .iaload, 1), (82, .invokevirtual 233, 3), (85, .iastore, 1), (86, .aload_n 0, 1), (87, .getfield 59, 3), (90, .getfield 223, 3), (93, .iload_n 1, 1), (94, .iaload, 1), (95, .ifCond .lt 17, 3), (98, .iconst 1, 1), (99, .aload_n 0, 1), (100, .getfield 59, 3), (103, .getfield 223, 3), (106, .iload_n 1, 1), (107, .iaload, 1), (108, .ishl, 1), (109, .goto 4, 3), (112, .iconst 0, 1), (113, .istore_n 2, 1), (114, .goto 154, 3), (117, .goto 151, 3), (120, .aload_n 0, 1), (121, .aload_n 0, 1), (122, .getfield 59, 3), (125, .getfield 141, 3), (128, .iload_n 1, 1), (129, .iaload, 1), (130, .invokevirtual 236, 3), (133, .istore_n 2, 1), (134, .goto 134, 3), (137, .aload_n 0, 1), (138, .aload_n 0, 1), (139, .getfield 59, 3), (142, .getfield 223, 3), (145, .iload_n 1, 1), (146, .iaload, 1), (147, .invokevirtual 115, 3), (150, .aload_n 0, 1), (151, .aload_n 0, 1), (152, .getfield 59, 3), (155, .getfield 141, 3), (158, .iload_n 1, 1), (159, .iaload, 1), (160, .invokevirtual 236, 3), (163, .ior, 1), (164, .istore_n 2, 1), (165, .goto 103, 3), (168, .aload_n 0, 1), (169, .aload_n 0, 1), (170, .getfield 59, 3), (173, .getfield 138, 3), (176, .iload_n 1, 1), (177, .iaload, 1), (178, .iload_n 3, 1), (179, .invokevirtual 239, 3), (182, .aload_n 0, 1), (183, .getfield 59, 3), (186, .getfield 141, 3), (189, .iload_n 1, 1), (190, .iload_n 3, 1), (191, .iastore, 1), (192, .aload_n 0, 1), (193, .aload_n 0, 1), (194, .getfield 59, 3), (197, .getfield 197, 3), (200, .iload_n 1, 1), (201, .iaload, 1), (202, .invokevirtual 115, 3), (205, .iconst 1, 1), (206, .iload_n 3, 1), (207, .ishl, 1), (208, .iconst 1, 1), (209, .isub, 1), (210, .iand, 1), (211, .istore_n 2, 1), (212, .goto 56, 3), (215, .aload_n 0, 1), (216, .iload_n 1, 1), (217, .invokevirtual 243, 3), (220, .iconst 1, 1), (221, .iload_n 3, 1), (222, .ishl, 1), (223, .iconst 1, 1), (224, .isub, 1), (225, .iand, 1), (226, .istore_n 2, 1), (227, .goto 41, 3), (230, .aload_n 0, 1), (231, .aload_n 0, 1), (232, .getfield 59, 3), (235, .getfield 223, 3), (238, .iload_n 1, 1), (239, .iaload, 1), (240, .invokevirtual 115, 3), (243, .aload_n 0, 1), (244, .aload_n 0, 1), (245, .getfield 59, 3), (248, .getfield 141, 3), (251, .iload_n 1, 1), (252, .iaload, 1), (253, .iload_n 3, 1), (254, .invokevirtual 246, 3), (257, .ior, 1), (258, .istore_n 2, 1), (259, .goto 9, 3), (262, .aload_n 0, 1), (263, .iload_n 1, 1), (264, .invokevirtual 250, 3), (267, .istore_n 2, 1), (268, .aload_n 0, 1), (269, .iload_n 3, 1), (270, .putfield 106, 3), (273, .aload_n 0, 1), (274, .getfield 59, 3), (277, .getfield 112, 3), (280, .iload_n 1, 1), (281, .iload_n 2, 1), (282, .iastore, 1), (283, .iload_n 2, 1), (284, .ireturn, 1)]
def x_65 : zCx := (2, false, 1, zCode i_65, [])
def b_65 : zS := (sSeq (sSt 1 2 (eP (pI 0)))
  (sSeq (sSt 1 3 (eP (p1 (oGf 2 11 1) (pL 3 0))))
  (sSeq (sSw (eP (p2 oIald (p1 (oGf 5 0 3) (p1 (oGf 2 2 3) (pL 3 0))) (pL 1 1))) [(0, 0), (1, 1), (2, 2), (3, 3), (4, 4), (5, 5), (7, 6)] 7 [(sSeq (sSe 1 (eP (p1 (oGf 5 2 3) (p1 (oGf 2 2 3) (pL 3 0)))) (eP (pL 1 1)) (eCall 63 [(eP (pL 3 0)), (eP (p2 oIald (p1 (oGf 5 7 3) (p1 (oGf 2 2 3) (pL 3 0))) (pL 1 1)))]))
  (sSeq (sSt 1 2 (eP (pIte (k0 .ge (p2 oIald (p1 (oGf 5 2 3) (p1 (oGf 2 2 3) (pL 3 0))) (pL 1 1))) (p2 oShl (pI 1) (p2 oIald (p1 (oGf 5 2 3) (p1 (oGf 2 2 3) (pL 3 0))) (pL 1 1))) (pI 0))))
  (sBrk true))),
  (sBrk true),
  (sSeq (sSt 1 2 (eCall 67 [(eP (pL 3 0)), (eP (p2 oIald (p1 (oGf 5 3 3) (p1 (oGf 2 2 3) (pL 3 0))) (pL 1 1)))]))
  (sBrk true)),
  (sSeq (sSt 1 2 (e2 oOr (eCall 65 [(eP (pL 3 0)), (eP (p2 oIald (p1 (oGf 5 2 3) (p1 (oGf 2 2 3) (pL 3 0))) (pL 1 1)))]) (eCall 67 [(eP (pL 3 0)), (eP (p2 oIald (p1 (oGf 5 3 3) (p1 (oGf 2 2 3) (pL 3 0))) (pL 1 1)))])))
  (sBrk true)),
  (sSeq (sCall 68 [(eP (pL 3 0)), (eP (p2 oIald (p1 (oGf 5 7 3) (p1 (oGf 2 2 3) (pL 3 0))) (pL 1 1))), (eP (pL 1 3))])
  (sSeq (sSe 1 (eP (p1 (oGf 5 3 3) (p1 (oGf 2 2 3) (pL 3 0)))) (eP (pL 1 1)) (eP (pL 1 3)))
  (sSeq (sSt 1 2 (e2 oAnd (eCall 65 [(eP (pL 3 0)), (eP (p2 oIald (p1 (oGf 5 4 3) (p1 (oGf 2 2 3) (pL 3 0))) (pL 1 1)))]) (eP (p2 oSub (p2 oShl (pI 1) (pL 1 3)) (pI 1)))))
  (sBrk true)))),
  (sSeq (sSt 1 2 (e2 oAnd (eCall 69 [(eP (pL 3 0)), (eP (pL 1 1))]) (eP (p2 oSub (p2 oShl (pI 1) (pL 1 3)) (pI 1)))))
  (sBrk true)),
  (sSeq (sSt 1 2 (e2 oOr (eCall 65 [(eP (pL 3 0)), (eP (p2 oIald (p1 (oGf 5 2 3) (p1 (oGf 2 2 3) (pL 3 0))) (pL 1 1)))]) (eCall 70 [(eP (pL 3 0)), (eP (p2 oIald (p1 (oGf 5 3 3) (p1 (oGf 2 2 3) (pL 3 0))) (pL 1 1))), (eP (pL 1 3))])))
  (sBrk true)),
  (sSeq (sSt 1 2 (eCall 66 [(eP (pL 3 0)), (eP (pL 1 1))]))
  (sBrk false))])
  (sSeq (sPf (eP (pL 3 0)) 2 11 1 (eP (pL 1 3)))
  (sSeq (sSe 1 (eP (p1 (oGf 5 5 3) (p1 (oGf 2 2 3) (pL 3 0)))) (eP (pL 1 1)) (eP (pL 1 2)))
  (sRet 1 (eP (pL 1 2))))))))
theorem k_65 : b_65.1.1 x_65 (0, true, []) = some ((285, false, []), [], []) := by decide +kernel
/-- LazyForms$Reader.signs -/
def i_66 : List (Nat × Instr × Nat) := [(0, .aload_n 0, 1), (1, .getfield 109, 3), (4, .istore_n 2, 1), (5, .iload_n 1, 1), (6, .istore_n 3, 1), (7, .aload_n 0, 1), (8, .getfield 59, 3), (11, .getfield 219, 3), (14, .iload_n 3, 1), (15, .iaload, 1), (16, .bipush 10, 2), (18, .if_icmp .ne 36, 3), (21, .aload_n 0, 1), (22, .getfield 29, 3), (25, .aload_n 0, 1), (26, .getfield 109, 3), (29, .iload_n 3, 1), (30, .iastore, 1), (31, .aload_n 0, 1), (32, .dup, 1), (33, .getfield 109, 3), (36, .iconst 1, 1), (37, .iadd, 1), (38, .putfield 109, 3), (41, .aload_n 0, 1), (42, .getfield 59, 3), (45, .getfield 223, 3), (48, .iload_n 3, 1), (49, .iaload, 1), (50, .istore_n 3, 1), (51, .goto (-44), 3), (54, .aload_n 0, 1), (55, .iload_n 3, 1), (56, .invokevirtual 115, 3), (59, .istore 4, 2), (61, .aload_n 0, 1), (62, .getfield 109, 3), (65, .iload_n 2, 1), (66, .if_icmp .le 58, 3), (69, .aload_n 0, 1), (70, .dup, 1), (71, .getfield 109, 3), (74, .iconst 1, 1), (75, .isub, 1), (76, .putfield 109, 3), (79, .aload_n 0, 1), (80, .getfield 29, 3), (83, .aload_n 0, 1), (84, .getfield 109, 3), (87, .iaload, 1), (88, .istore 5, 2), (90, .iload 4, 2), (92, .aload_n 0, 1), (93, .aload_n 0, 1), (94, .getfield 59, 3), (97, .getfield 141, 3), (100, .iload 5, 2), (102, .iaload, 1), (103, .invokevirtual 115, 3), (106, .ior, 1), (107, .istore 4, 2), (109, .aload_n 0, 1), (110, .getfield 59, 3), (113, .getfield 112, 3), (116, .iload 5, 2), (118, .iload 4, 2), (120, .iastore, 1), (121, .goto (-60), 3), (124, .iload 4, 2), (126, .ireturn, 1)]
def x_66 : zCx := (2, false, 1, zCode i_66, [])
def b_66 : zS := (sSeq (sSt 1 2 (eP (p1 (oGf 2 13 1) (pL 3 0))))
  (sSeq (sSt 1 3 (eP (pL 1 1)))
  (sSeq (sWh (cP (kI .eq (p2 oIald (p1 (oGf 5 0 3) (p1 (oGf 2 2 3) (pL 3 0))) (pL 1 3)) (pI 10)))
  (sSeq (sSe 1 (eP (p1 (oGf 2 12 3) (pL 3 0))) (eP (p1 (oGf 2 13 1) (pL 3 0))) (eP (pL 1 3)))
  (sSeq (sPfo (eP (pL 3 0)) 2 13 1 oAdd (eP (pI 1)))
  (sSt 1 3 (eP (p2 oIald (p1 (oGf 5 2 3) (p1 (oGf 2 2 3) (pL 3 0))) (pL 1 3))))))
  sSkip)
  (sSeq (sSt 1 4 (eCall 65 [(eP (pL 3 0)), (eP (pL 1 3))]))
  (sSeq (sWh (cP (kI .gt (p1 (oGf 2 13 1) (pL 3 0)) (pL 1 2)))
  (sBlk 5 (sSeq (sPfo (eP (pL 3 0)) 2 13 1 oSub (eP (pI 1)))
  (sSeq (sSt 1 5 (eP (p2 oIald (p1 (oGf 2 12 3) (pL 3 0)) (p1 (oGf 2 13 1) (pL 3 0)))))
  (sSeq (sSt 1 4 (e2 oOr (eP (pL 1 4)) (eCall 65 [(eP (pL 3 0)), (eP (p2 oIald (p1 (oGf 5 3 3) (p1 (oGf 2 2 3) (pL 3 0))) (pL 1 5)))])))
  (sSe 1 (eP (p1 (oGf 5 5 3) (p1 (oGf 2 2 3) (pL 3 0)))) (eP (pL 1 5)) (eP (pL 1 4)))))))
  sSkip)
  (sRet 1 (eP (pL 1 4))))))))
theorem k_66 : b_66.1.1 x_66 (0, true, []) = some ((127, false, []), [], []) := by decide +kernel
/-- LazyForms$Reader.atoms -/
def i_67 : List (Nat × Instr × Nat) := [(0, .iconst 0, 1), (1, .istore_n 2, 1), (2, .iconst 0, 1), (3, .istore_n 3, 1), (4, .iload_n 1, 1), (5, .istore 4, 2), (7, .iload 4, 2), (9, .iconst (-1), 1), (10, .if_icmp .eq 58, 3), (13, .iload_n 3, 1), (14, .bipush 6, 2), (16, .if_icmp .ne 17, 3), (19, .aload_n 0, 1), (20, .aload_n 0, 1), (21, .getfield 59, 3), (24, .getfield 222, 3), (27, .iload 4, 2), (29, .iaload, 1), (30, .invokevirtual 205, 3), (33, .iinc 3 1, 3), (36, .iload_n 2, 1), (37, .aload_n 0, 1), (38, .aload_n 0, 1), (39, .getfield 59, 3), (42, .getfield 223, 3), (45, .iload 4, 2), (47, .iaload, 1), (48, .invokevirtual 115, 3), (51, .ior, 1), (52, .istore_n 2, 1), (53, .aload_n 0, 1), (54, .getfield 59, 3), (57, .getfield 125, 3), (60, .iload 4, 2), (62, .iaload, 1), (63, .istore 4, 2), (65, .goto (-58), 3), (68, .iload_n 2, 1), (69, .ireturn, 1)]
def x_67 : zCx := (2, false, 1, zCode i_67, [])
def b_67 : zS := (sSeq (sSt 1 2 (eP (pI 0)))
  (sSeq (sSt 1 3 (eP (pI 0)))
  (sSeq (sBlk 4 (sSeq (sSt 1 4 (eP (pL 1 1)))
  (sWh (cP (kI .ne (pL 1 4) (pI (-1))))
  (sSeq (sIf (cP (kI .eq (pL 1 3) (pI 6)))
  (sCall 60 [(eP (pL 3 0)), (eP (p2 oIald (p1 (oGf 5 1 3) (p1 (oGf 2 2 3) (pL 3 0))) (pL 1 4)))]))
  (sSeq (sInc 3 1)
  (sSt 1 2 (e2 oOr (eP (pL 1 2)) (eCall 65 [(eP (pL 3 0)), (eP (p2 oIald (p1 (oGf 5 2 3) (p1 (oGf 2 2 3) (pL 3 0))) (pL 1 4)))])))))
  (sSt 1 4 (eP (p2 oIald (p1 (oGf 5 6 3) (p1 (oGf 2 2 3) (pL 3 0))) (pL 1 4)))))))
  (sRet 1 (eP (pL 1 2))))))
theorem k_67 : b_67.1.1 x_67 (0, true, []) = some ((70, false, []), [], []) := by decide +kernel
/-- LazyForms$Reader.names -/
def i_68 : List (Nat × Instr × Nat) := [(0, .iconst 0, 1), (1, .istore_n 3, 1), (2, .iload_n 1, 1), (3, .istore 4, 2), (5, .iload 4, 2), (7, .iconst (-1), 1), (8, .if_icmp .eq 84, 3), (11, .iload_n 3, 1), (12, .bipush 6, 2), (14, .if_icmp .ne 17, 3), (17, .aload_n 0, 1), (18, .aload_n 0, 1), (19, .getfield 59, 3), (22, .getfield 222, 3), (25, .iload 4, 2), (27, .iaload, 1), (28, .invokevirtual 205, 3), (31, .iinc 3 1, 3), (34, .aload_n 0, 1), (35, .getfield 59, 3), (38, .getfield 223, 3), (41, .iload 4, 2), (43, .aload_n 0, 1), (44, .getfield 59, 3), (47, .getfield 138, 3), (50, .iload 4, 2), (52, .iaload, 1), (53, .iconst (-1), 1), (54, .if_icmp .ne 7, 3), (57, .iconst (-1), 1), (58, .goto 18, 3), (61, .aload_n 0, 1), (62, .aload_n 0, 1), (63, .getfield 59, 3), (66, .getfield 138, 3), (69, .iload 4, 2), (71, .iaload, 1), (72, .iload_n 2, 1), (73, .invokevirtual 253, 3), (76, .iastore, 1), (77, .aload_n 0, 1), (78, .getfield 59, 3), (81, .getfield 125, 3), (84, .iload 4, 2), (86, .iaload, 1), (87, .istore 4, 2), (89, .goto (-84), 3), (92, .return_, 1)]
def x_68 : zCx := (2, false, 0, zCode i_68, [])
def b_68 : zS := (sSeq (sSeq (sSt 1 3 (eP (pI 0)))
  (sBlk 4 (sSeq (sSt 1 4 (eP (pL 1 1)))
  (sWh (cP (kI .ne (pL 1 4) (pI (-1))))
  (sSeq (sIf (cP (kI .eq (pL 1 3) (pI 6)))
  (sCall 60 [(eP (pL 3 0)), (eP (p2 oIald (p1 (oGf 5 1 3) (p1 (oGf 2 2 3) (pL 3 0))) (pL 1 4)))]))
  (sSeq (sInc 3 1)
  (sSe 1 (eP (p1 (oGf 5 2 3) (p1 (oGf 2 2 3) (pL 3 0)))) (eP (pL 1 4)) (eIte (cP (kI .eq (p2 oIald (p1 (oGf 5 7 3) (p1 (oGf 2 2 3) (pL 3 0))) (pL 1 4)) (pI (-1)))) (eP (pI (-1))) (eCall 62 [(eP (pL 3 0)), (eP (p2 oIald (p1 (oGf 5 7 3) (p1 (oGf 2 2 3) (pL 3 0))) (pL 1 4))), (eP (pL 1 2))])))))
  (sSt 1 4 (eP (p2 oIald (p1 (oGf 5 6 3) (p1 (oGf 2 2 3) (pL 3 0))) (pL 1 4))))))))
  sRet0)
theorem k_68 : b_68.1.1 x_68 (0, true, []) = some ((93, false, []), [], []) := by decide +kernel
/-- LazyForms$Reader.bindings -/
def i_69 : List (Nat × Instr × Nat) := [(0, .aload_n 0, 1), (1, .getfield 106, 3), (4, .istore_n 2, 1), (5, .iconst 0, 1), (6, .istore_n 3, 1), (7, .aload_n 0, 1), (8, .getfield 59, 3), (11, .getfield 223, 3), (14, .iload_n 1, 1), (15, .iaload, 1), (16, .istore 4, 2), (18, .iload 4, 2), (20, .iconst (-1), 1), (21, .if_icmp .eq 66, 3), (24, .iload_n 3, 1), (25, .bipush 6, 2), (27, .if_icmp .ne 17, 3), (30, .aload_n 0, 1), (31, .aload_n 0, 1), (32, .getfield 59, 3), (35, .getfield 222, 3), (38, .iload 4, 2), (40, .iaload, 1), (41, .invokevirtual 205, 3), (44, .iinc 3 1, 3), (47, .aload_n 0, 1), (48, .getfield 59, 3), (51, .getfield 223, 3), (54, .iload 4, 2), (56, .aload_n 0, 1), (57, .aload_n 0, 1), (58, .getfield 59, 3), (61, .getfield 138, 3), (64, .iload 4, 2), (66, .iaload, 1), (67, .iload_n 2, 1), (68, .invokevirtual 253, 3), (71, .iastore, 1), (72, .aload_n 0, 1), (73, .getfield 59, 3), (76, .getfield 125, 3), (79, .iload 4, 2), (81, .iaload, 1), (82, .istore 4, 2), (84, .goto (-66), 3), (87, .iconst 0, 1), (88, .istore 4, 2), (90, .aload_n 0, 1), (91, .getfield 59, 3), (94, .getfield 223, 3), (97, .iload_n 1, 1), (98, .iaload, 1), (99, .istore 5, 2), (101, .iload 5, 2), (103, .iconst (-1), 1), (104, .if_icmp .eq 57, 3), (107, .aload_n 0, 1), (108, .getfield 59, 3), (111, .getfield 112, 3), (114, .iload 5, 2), (116, .aload_n 0, 1), (117, .aload_n 0, 1), (118, .getfield 59, 3), (121, .getfield 141, 3), (124, .iload 5, 2), (126, .iaload, 1), (127, .invokevirtual 115, 3), (130, .iastore, 1), (131, .iload 4, 2), (133, .aload_n 0, 1), (134, .getfield 59, 3), (137, .getfield 112, 3), (140, .iload 5, 2), (142, .iaload, 1), (143, .ior, 1), (144, .istore 4, 2), (146, .aload_n 0, 1), (147, .getfield 59, 3), (150, .getfield 125, 3), (153, .iload 5, 2), (155, .iaload, 1), (156, .istore 5, 2), (158, .goto (-57), 3), (161, .iload 4, 2), (163, .aload_n 0, 1), (164, .aload_n 0, 1), (165, .getfield 59, 3), (168, .getfield 141, 3), (171, .iload_n 1, 1), (172, .iaload, 1), (173, .invokevirtual 115, 3), (176, .ior, 1), (177, .ireturn, 1)]
def x_69 : zCx := (2, false, 1, zCode i_69, [])
def b_69 : zS := (sSeq (sSt 1 2 (eP (p1 (oGf 2 11 1) (pL 3 0))))
  (sSeq (sSt 1 3 (eP (pI 0)))
  (sSeq (sBlk 4 (sSeq (sSt 1 4 (eP (p2 oIald (p1 (oGf 5 2 3) (p1 (oGf 2 2 3) (pL 3 0))) (pL 1 1))))
  (sWh (cP (kI .ne (pL 1 4) (pI (-1))))
  (sSeq (sIf (cP (kI .eq (pL 1 3) (pI 6)))
  (sCall 60 [(eP (pL 3 0)), (eP (p2 oIald (p1 (oGf 5 1 3) (p1 (oGf 2 2 3) (pL 3 0))) (pL 1 4)))]))
  (sSeq (sInc 3 1)
  (sSe 1 (eP (p1 (oGf 5 2 3) (p1 (oGf 2 2 3) (pL 3 0)))) (eP (pL 1 4)) (eCall 62 [(eP (pL 3 0)), (eP (p2 oIald (p1 (oGf 5 7 3) (p1 (oGf 2 2 3) (pL 3 0))) (pL 1 4))), (eP (pL 1 2))]))))
  (sSt 1 4 (eP (p2 oIald (p1 (oGf 5 6 3) (p1 (oGf 2 2 3) (pL 3 0))) (pL 1 4)))))))
  (sSeq (sSt 1 4 (eP (pI 0)))
  (sSeq (sBlk 5 (sSeq (sSt 1 5 (eP (p2 oIald (p1 (oGf 5 2 3) (p1 (oGf 2 2 3) (pL 3 0))) (pL 1 1))))
  (sWh (cP (kI .ne (pL 1 5) (pI (-1))))
  (sSeq (sSe 1 (eP (p1 (oGf 5 5 3) (p1 (oGf 2 2 3) (pL 3 0)))) (eP (pL 1 5)) (eCall 65 [(eP (pL 3 0)), (eP (p2 oIald (p1 (oGf 5 3 3) (p1 (oGf 2 2 3) (pL 3 0))) (pL 1 5)))]))
  (sSt 1 4 (eP (p2 oOr (pL 1 4) (p2 oIald (p1 (oGf 5 5 3) (p1 (oGf 2 2 3) (pL 3 0))) (pL 1 5))))))
  (sSt 1 5 (eP (p2 oIald (p1 (oGf 5 6 3) (p1 (oGf 2 2 3) (pL 3 0))) (pL 1 5)))))))
  (sRet 1 (e2 oOr (eP (pL 1 4)) (eCall 65 [(eP (pL 3 0)), (eP (p2 oIald (p1 (oGf 5 3 3) (p1 (oGf 2 2 3) (pL 3 0))) (pL 1 1)))]))))))))
theorem k_69 : b_69.1.1 x_69 (0, true, []) = some ((178, false, []), [], []) := by decide +kernel
/-- LazyForms$Reader.alts -/
def i_70 : List (Nat × Instr × Nat) := [(0, .iconst 0, 1), (1, .istore_n 3, 1), (2, .iconst 0, 1), (3, .istore 4, 2), (5, .iload_n 1, 1), (6, .istore 5, 2), (8, .iload 5, 2), (10, .iconst (-1), 1), (11, .if_icmp .eq 120, 3), (14, .iload 4, 2), (16, .bipush 8, 2), (18, .if_icmp .ne 25, 3), (21, .aload_n 0, 1), (22, .aload_n 0, 1), (23, .getfield 12, 3), (26, .getfield 46, 3), (29, .aload_n 0, 1), (30, .getfield 59, 3), (33, .getfield 138, 3), (36, .iload 5, 2), (38, .iaload, 1), (39, .iaload, 1), (40, .invokevirtual 205, 3), (43, .iinc 4 1, 3), (46, .aload_n 0, 1), (47, .getfield 59, 3), (50, .getfield 223, 3), (53, .iload 5, 2), (55, .iaload, 1), (56, .ifCond .eq 17, 3), (59, .aload_n 0, 1), (60, .getfield 59, 3), (63, .getfield 223, 3), (66, .iload 5, 2), (68, .iaload, 1), (69, .iconst 2, 1), (70, .if_icmp .ne 18, 3), (73, .aload_n 0, 1), (74, .aload_n 0, 1), (75, .getfield 59, 3), (78, .getfield 141, 3), (81, .iload 5, 2), (83, .iaload, 1), (84, .iload_n 2, 1), (85, .invokevirtual 239, 3), (88, .iload_n 3, 1), (89, .aload_n 0, 1), (90, .aload_n 0, 1), (91, .getfield 59, 3), (94, .getfield 197, 3), (97, .iload 5, 2), (99, .iaload, 1), (100, .invokevirtual 115, 3), (103, .iconst 1, 1), (104, .iload_n 2, 1), (105, .ishl, 1), (106, .iconst 1, 1), (107, .isub, 1), (108, .iand, 1), (109, .ior, 1), (110, .istore_n 3, 1), (111, .aload_n 0, 1), (112, .iload_n 2, 1), (113, .putfield 106, 3), (116, .aload_n 0, 1), (117, .getfield 59, 3), (120, .getfield 125, 3), (123, .iload 5, 2), (125, .iaload, 1), (126, .istore 5, 2), (128, .goto (-120), 3), (131, .iload_n 1, 1), (132, .iconst (-1), 1), (133, .if_icmp .eq 13, 3), (136, .aload_n 0, 1), (137, .getfield 59, 3), (140, .getfield 112, 3), (143, .iload_n 1, 1), (144, .iload_n 3, 1), (145, .iastore, 1), (146, .iload_n 3, 1), (147, .ireturn, 1)]
def x_70 : zCx := (2, false, 1, zCode i_70, [])
def b_70 : zS := (sSeq (sSt 1 3 (eP (pI 0)))
  (sSeq (sSt 1 4 (eP (pI 0)))
  (sSeq (sBlk 5 (sSeq (sSt 1 5 (eP (pL 1 1)))
  (sWh (cP (kI .ne (pL 1 5) (pI (-1))))
  (sSeq (sIf (cP (kI .eq (pL 1 4) (pI 8)))
  (sCall 60 [(eP (pL 3 0)), (eP (p2 oIald (p1 (oGf 4 4 3) (p1 (oGf 2 0 3) (pL 3 0))) (p2 oIald (p1 (oGf 5 7 3) (p1 (oGf 2 2 3) (pL 3 0))) (pL 1 5))))]))
  (sSeq (sInc 4 1)
  (sSeq (sIf (cP (kOr (k0 .eq (p2 oIald (p1 (oGf 5 2 3) (p1 (oGf 2 2 3) (pL 3 0))) (pL 1 5))) (kI .eq (p2 oIald (p1 (oGf 5 2 3) (p1 (oGf 2 2 3) (pL 3 0))) (pL 1 5)) (pI 2))))
  (sCall 68 [(eP (pL 3 0)), (eP (p2 oIald (p1 (oGf 5 3 3) (p1 (oGf 2 2 3) (pL 3 0))) (pL 1 5))), (eP (pL 1 2))]))
  (sSeq (sSt 1 3 (e2 oOr (eP (pL 1 3)) (e2 oAnd (eCall 65 [(eP (pL 3 0)), (eP (p2 oIald (p1 (oGf 5 4 3) (p1 (oGf 2 2 3) (pL 3 0))) (pL 1 5)))]) (eP (p2 oSub (p2 oShl (pI 1) (pL 1 2)) (pI 1))))))
  (sPf (eP (pL 3 0)) 2 11 1 (eP (pL 1 2)))))))
  (sSt 1 5 (eP (p2 oIald (p1 (oGf 5 6 3) (p1 (oGf 2 2 3) (pL 3 0))) (pL 1 5)))))))
  (sSeq (sIf (cP (kI .ne (pL 1 1) (pI (-1))))
  (sSe 1 (eP (p1 (oGf 5 5 3) (p1 (oGf 2 2 3) (pL 3 0)))) (eP (pL 1 1)) (eP (pL 1 3))))
  (sRet 1 (eP (pL 1 3)))))))
theorem k_70 : b_70.1.1 x_70 (0, true, []) = some ((148, false, []), [], []) := by decide +kernel
/-- LazyForms$Reader.<init> -/
def i_71 : List (Nat × Instr × Nat) := [(0, .aload_n 0, 1), (1, .invokespecial 3, 3), (4, .aload_n 0, 1), (5, .new 9, 3), (8, .dup, 1), (9, .invokespecial 11, 3), (12, .putfield 12, 3), (15, .aload_n 0, 1), (16, .new 18, 3), (19, .dup, 1), (20, .invokespecial 20, 3), (23, .putfield 21, 3), (26, .aload_n 0, 1), (27, .sipush 1100, 3), (30, .newarray .int, 2), (32, .putfield 25, 3), (35, .aload_n 0, 1), (36, .sipush 1100, 3), (39, .newarray .int, 2), (41, .putfield 29, 3), (44, .return_, 1)]
def x_71 : zCx := (2, true, 0, zCode i_71, [])
def b_71 : zS := (sSeq sSup
  (sSeq (sPf (eP (pL 3 0)) 2 0 3 (eNew 4 28 []))
  (sSeq (sPf (eP (pL 3 0)) 2 1 3 eNewS)
  (sSeq (sPf (eP (pL 3 0)) 2 10 3 (eNewA .int (pI 1100)))
  (sSeq (sPf (eP (pL 3 0)) 2 12 3 (eNewA .int (pI 1100)))
  sRet0)))))
theorem k_71 : b_71.1.1 x_71 (0, true, []) = some ((45, false, []), [], []) := by decide +kernel
/-- LazyForms$Machine.<init> -/
def i_72 : List (Nat × Instr × Nat) := [(0, .aload_n 0, 1), (1, .invokespecial 3, 3), (4, .aload_n 0, 1), (5, .new 9, 3), (8, .dup, 1), (9, .invokespecial 11, 3), (12, .putfield 12, 3), (15, .aload_n 0, 1), (16, .sipush 30000, 3), (19, .newarray .long, 2), (21, .putfield 18, 3), (24, .aload_n 0, 1), (25, .sipush 30000, 3), (28, .newarray .long, 2), (30, .putfield 22, 3), (33, .aload_n 0, 1), (34, .bipush 41, 2), (36, .newarray .int, 2), (38, .putfield 25, 3), (41, .aload_n 0, 1), (42, .bipush 41, 2), (44, .newarray .long, 2), (46, .putfield 29, 3), (49, .aload_n 0, 1), (50, .bipush 40, 2), (52, .newarray .long, 2), (54, .putfield 32, 3), (57, .aload_n 0, 1), (58, .sipush 9600, 3), (61, .newarray .long, 2), (63, .putfield 35, 3), (66, .aload_n 0, 1), (67, .sipush 400, 3), (70, .newarray .int, 2), (72, .putfield 38, 3), (75, .aload_n 0, 1), (76, .sipush 400, 3), (79, .newarray .int, 2), (81, .putfield 41, 3), (84, .aload_n 0, 1), (85, .sipush 401, 3), (88, .newarray .int, 2), (90, .putfield 44, 3), (93, .aload_n 0, 1), (94, .sipush 1000, 3), (97, .newarray .byte, 2), (99, .putfield 47, 3), (102, .aload_n 0, 1), (103, .bipush 16, 2), (105, .newarray .long, 2), (107, .putfield 51, 3), (110, .aload_n 0, 1), (111, .sipush 400, 3), (114, .newarray .boolean, 2), (116, .putfield 54, 3), (119, .aload_n 0, 1), (120, .iload_n 1, 1), (121, .putfield 58, 3), (124, .return_, 1)]
def x_72 : zCx := (1, true, 0, zCode i_72, [])
def b_72 : zS := (sSeq sSup
  (sSeq (sPf (eP (pL 3 0)) 1 1 3 eNewS)
  (sSeq (sPf (eP (pL 3 0)) 1 4 3 (eNewA .long (pI 30000)))
  (sSeq (sPf (eP (pL 3 0)) 1 5 3 (eNewA .long (pI 30000)))
  (sSeq (sPf (eP (pL 3 0)) 1 8 3 (eNewA .int (pI 41)))
  (sSeq (sPf (eP (pL 3 0)) 1 9 3 (eNewA .long (pI 41)))
  (sSeq (sPf (eP (pL 3 0)) 1 10 3 (eNewA .long (pI 40)))
  (sSeq (sPf (eP (pL 3 0)) 1 11 3 (eNewA .long (pI 9600)))
  (sSeq (sPf (eP (pL 3 0)) 1 12 3 (eNewA .int (pI 400)))
  (sSeq (sPf (eP (pL 3 0)) 1 13 3 (eNewA .int (pI 400)))
  (sSeq (sPf (eP (pL 3 0)) 1 14 3 (eNewA .int (pI 401)))
  (sSeq (sPf (eP (pL 3 0)) 1 24 3 (eNewA .byte (pI 1000)))
  (sSeq (sPf (eP (pL 3 0)) 1 30 3 (eNewA .long (pI 16)))
  (sSeq (sPf (eP (pL 3 0)) 1 31 3 (eNewA .boolean (pI 400)))
  (sSeq (sPf (eP (pL 3 0)) 1 0 1 (eP (pL 1 1)))
  sRet0)))))))))))))))
theorem k_72 : b_72.1.1 x_72 (0, true, []) = some ((125, false, []), [], []) := by decide +kernel
/-- LazyForms$Machine.tree -/
def i_73 : List (Nat × Instr × Nat) := [(0, .iload_n 1, 1), (1, .sipush 4096, 3), (4, .if_icmp .ge 10, 3), (7, .aload_n 0, 1), (8, .getfield 62, 3), (11, .goto 7, 3), (14, .aload_n 0, 1), (15, .getfield 66, 3), (18, .areturn, 1)]
def x_73 : zCx := (1, false, 3, zCode i_73, [])
def b_73 : zS := (sRet 3 (eP (pIte (kI .lt (pL 1 1) (pI 4096)) (p1 (oGf 1 2 3) (pL 3 0)) (p1 (oGf 1 3 3) (pL 3 0)))))
theorem k_73 : b_73.1.1 x_73 (0, true, []) = some ((19, false, []), [], []) := by decide +kernel
/-- LazyForms$Machine.form -/
def i_74 : List (Nat × Instr × Nat) := [(0, .aload_n 0, 1), (1, .iload_n 1, 1), (2, .invokevirtual 69, 3), (5, .getfield 73, 3), (8, .iload_n 1, 1), (9, .sipush 4096, 3), (12, .irem, 1), (13, .iaload, 1), (14, .ireturn, 1)]
def x_74 : zCx := (1, false, 1, zCode i_74, [])
def b_74 : zS := (sRet 1 (e2 oIald (e1 (oGf 5 0 3) (eCall 73 [(eP (pL 3 0)), (eP (pL 1 1))])) (eP (p2 oRem (pL 1 1) (pI 4096)))))
theorem k_74 : b_74.1.1 x_74 (0, true, []) = some ((15, false, []), [], []) := by decide +kernel
/-- LazyForms$Machine.a -/
def i_75 : List (Nat × Instr × Nat) := [(0, .aload_n 0, 1), (1, .iload_n 1, 1), (2, .invokevirtual 69, 3), (5, .getfield 78, 3), (8, .iload_n 1, 1), (9, .sipush 4096, 3), (12, .irem, 1), (13, .iaload, 1), (14, .ireturn, 1)]
def x_75 : zCx := (1, false, 1, zCode i_75, [])
def b_75 : zS := (sRet 1 (e2 oIald (e1 (oGf 5 2 3) (eCall 73 [(eP (pL 3 0)), (eP (pL 1 1))])) (eP (p2 oRem (pL 1 1) (pI 4096)))))
theorem k_75 : b_75.1.1 x_75 (0, true, []) = some ((15, false, []), [], []) := by decide +kernel
/-- LazyForms$Machine.b -/
def i_76 : List (Nat × Instr × Nat) := [(0, .aload_n 0, 1), (1, .iload_n 1, 1), (2, .invokevirtual 69, 3), (5, .getfield 81, 3), (8, .iload_n 1, 1), (9, .sipush 4096, 3), (12, .irem, 1), (13, .iaload, 1), (14, .ireturn, 1)]
def x_76 : zCx := (1, false, 1, zCode i_76, [])
def b_76 : zS := (sRet 1 (e2 oIald (e1 (oGf 5 3 3) (eCall 73 [(eP (pL 3 0)), (eP (pL 1 1))])) (eP (p2 oRem (pL 1 1) (pI 4096)))))
theorem k_76 : b_76.1.1 x_76 (0, true, []) = some ((15, false, []), [], []) := by decide +kernel
/-- LazyForms$Machine.c -/
def i_77 : List (Nat × Instr × Nat) := [(0, .aload_n 0, 1), (1, .iload_n 1, 1), (2, .invokevirtual 69, 3), (5, .getfield 84, 3), (8, .iload_n 1, 1), (9, .sipush 4096, 3), (12, .irem, 1), (13, .iaload, 1), (14, .ireturn, 1)]
def x_77 : zCx := (1, false, 1, zCode i_77, [])
def b_77 : zS := (sRet 1 (e2 oIald (e1 (oGf 5 4 3) (eCall 73 [(eP (pL 3 0)), (eP (pL 1 1))])) (eP (p2 oRem (pL 1 1) (pI 4096)))))
theorem k_77 : b_77.1.1 x_77 (0, true, []) = some ((15, false, []), [], []) := by decide +kernel
/-- LazyForms$Machine.mask -/
def i_78 : List (Nat × Instr × Nat) := [(0, .aload_n 0, 1), (1, .iload_n 1, 1), (2, .invokevirtual 69, 3), (5, .getfield 87, 3), (8, .iload_n 1, 1), (9, .sipush 4096, 3), (12, .irem, 1), (13, .iaload, 1), (14, .ireturn, 1)]
def x_78 : zCx := (1, false, 1, zCode i_78, [])
def b_78 : zS := (sRet 1 (e2 oIald (e1 (oGf 5 5 3) (eCall 73 [(eP (pL 3 0)), (eP (pL 1 1))])) (eP (p2 oRem (pL 1 1) (pI 4096)))))
theorem k_78 : b_78.1.1 x_78 (0, true, []) = some ((15, false, []), [], []) := by decide +kernel
/-- LazyForms$Machine.of -/
def i_79 : List (Nat × Instr × Nat) := [(0, .iload_n 1, 1), (1, .iconst (-1), 1), (2, .if_icmp .ne 7, 3), (5, .iconst (-1), 1), (6, .goto 12, 3), (9, .iload_n 1, 1), (10, .iload_n 0, 1), (11, .iload_n 0, 1), (12, .sipush 4096, 3), (15, .irem, 1), (16, .isub, 1), (17, .iadd, 1), (18, .ireturn, 1)]
def x_79 : zCx := (1, false, 1, zCode i_79, [])
def b_79 : zS := (sRet 1 (eP (pIte (kI .eq (pL 1 1) (pI (-1))) (pI (-1)) (p2 oAdd (pL 1 1) (p2 oSub (pL 1 0) (p2 oRem (pL 1 0) (pI 4096)))))))
theorem k_79 : b_79.1.1 x_79 (0, true, []) = some ((19, false, []), [], []) := by decide +kernel
