/-- LazyForms$Machine.many -/
def i_120 : List (Nat × Instr × Nat) := [(0, .iconst 0, 1), (1, .istore_n 2, 1), (2, .iload_n 1, 1), (3, .aload_n 0, 1), (4, .iload_n 1, 1), (5, .invokevirtual 217, 3), (8, .invokestatic 93, 3), (11, .istore_n 3, 1), (12, .iload_n 3, 1), (13, .iconst (-1), 1), (14, .if_icmp .eq 15, 3), (17, .iinc 2 1, 3), (20, .aload_n 0, 1), (21, .iload_n 3, 1), (22, .invokevirtual 227, 3), (25, .istore_n 3, 1), (26, .goto (-14), 3), (29, .iload_n 2, 1), (30, .ireturn, 1)]
def x_120 : zCx := (1, false, 1, zCode i_120, [])
def b_120 : zS := (sSeq (sSt 1 2 (eP (pI 0)))
  (sSeq (sBlk 3 (sSeq (sSt 1 3 (eCall 79 [(eP (pL 1 1)), (eCall 76 [(eP (pL 3 0)), (eP (pL 1 1))])]))
  (sWh (cP (kI .ne (pL 1 3) (pI (-1))))
  (sInc 2 1)
  (sSt 1 3 (eCall 80 [(eP (pL 3 0)), (eP (pL 1 3))])))))
  (sRet 1 (eP (pL 1 2)))))
theorem k_120 : b_120.1.1 x_120 (0, true, []) = some ((31, false, []), [], []) := by decide +kernel
/-- LazyForms$Machine.say -/
def i_121 : List (Nat × Instr × Nat) := [(0, .aload_n 0, 1), (1, .getfield 136, 3), (4, .sipush 1000, 3), (7, .if_icmp .ne 9, 3), (10, .aload_n 0, 1), (11, .bipush 7, 2), (13, .invokevirtual 159, 3), (16, .aload_n 0, 1), (17, .getfield 47, 3), (20, .aload_n 0, 1), (21, .getfield 136, 3), (24, .iload_n 1, 1), (25, .i2b, 1), (26, .bastore, 1), (27, .aload_n 0, 1), (28, .dup, 1), (29, .getfield 136, 3), (32, .iconst 1, 1), (33, .iadd, 1), (34, .putfield 136, 3), (37, .return_, 1)]
def x_121 : zCx := (1, false, 0, zCode i_121, [])
def b_121 : zS := (sSeq (sSeq (sIf (cP (kI .eq (p1 (oGf 1 23 1) (pL 3 0)) (pI 1000)))
  (sCall 84 [(eP (pL 3 0)), (eP (pI 7))]))
  (sSeq (sSe 2 (eP (p1 (oGf 1 24 3) (pL 3 0))) (eP (p1 (oGf 1 23 1) (pL 3 0))) (eP (p1 oI2b (pL 1 1))))
  (sPfo (eP (pL 3 0)) 1 23 1 oAdd (eP (pI 1)))))
  sRet0)
theorem k_121 : b_121.1.1 x_121 (0, true, []) = some ((38, false, []), [], []) := by decide +kernel
/-- LazyForms$Machine.number -/
def i_122 : List (Nat × Instr × Nat) := [(0, .iload_n 1, 1), (1, .ifCond .ge 9, 3), (4, .aload_n 0, 1), (5, .bipush 45, 2), (7, .invokevirtual 324, 3), (10, .iload_n 1, 1), (11, .i2l, 1), (12, .invokestatic 327, 3), (15, .lstore_n 2, 1), (16, .lconst 1, 1), (17, .lstore 4, 2), (19, .lload_n 2, 1), (20, .lload 4, 2), (22, .ldiv, 1), (23, .ldc2_w 330, 3), (26, .lcmp, 1), (27, .ifCond .lt 14, 3), (30, .lload 4, 2), (32, .ldc2_w 330, 3), (35, .lmul, 1), (36, .lstore 4, 2), (38, .goto (-19), 3), (41, .lload 4, 2), (43, .lconst 0, 1), (44, .lcmp, 1), (45, .ifCond .le 31, 3), (48, .aload_n 0, 1), (49, .ldc2_w 332, 3), (52, .lload_n 2, 1), (53, .lload 4, 2), (55, .ldiv, 1), (56, .ldc2_w 330, 3), (59, .lrem, 1), (60, .ladd, 1), (61, .l2i, 1), (62, .invokevirtual 324, 3), (65, .lload 4, 2), (67, .ldc2_w 330, 3), (70, .ldiv, 1), (71, .lstore 4, 2), (73, .goto (-32), 3), (76, .return_, 1)]
def x_122 : zCx := (1, false, 0, zCode i_122, [])
def b_122 : zS := (sSeq (sSeq (sIf (cP (k0 .lt (pL 1 1)))
  (sCall 121 [(eP (pL 3 0)), (eP (pI 45))]))
  (sSeq (sSt 2 2 (eCall 234 [(eP (p1 oI2l (pL 1 1)))]))
  (sSeq (sSt 2 4 (eP (pJ 1)))
  (sSeq (sWh (cP (kL .ge (p2 oLdiv (pL 2 2) (pL 2 4)) (pJ 10)))
  (sSt 2 4 (eP (p2 oLmul (pL 2 4) (pJ 10))))
  sSkip)
  (sWh (cP (kL .gt (pL 2 4) (pJ 0)))
  (sCall 121 [(eP (pL 3 0)), (eP (p1 oL2i (p2 oLadd (pJ 48) (p2 oLrem (p2 oLdiv (pL 2 2) (pL 2 4)) (pJ 10)))))])
  (sSt 2 4 (eP (p2 oLdiv (pL 2 4) (pJ 10)))))))))
  sRet0)
theorem k_122 : b_122.1.1 x_122 (0, true, []) = some ((77, false, []), [], []) := by decide +kernel
/-- LazyForms$Machine.maker -/
def i_123 : List (Nat × Instr × Nat) := [(0, .iload_n 1, 1), (1, .sipush 1000, 3), (4, .if_icmp .ge 10, 3), (7, .aload_n 0, 1), (8, .getfield 62, 3), (11, .goto 7, 3), (14, .aload_n 0, 1), (15, .getfield 66, 3), (18, .astore_n 2, 1), (19, .iconst 0, 1), (20, .istore_n 3, 1), (21, .iload_n 3, 1), (22, .aload_n 2, 1), (23, .getfield 334, 3), (26, .iload_n 1, 1), (27, .sipush 1000, 3), (30, .irem, 1), (31, .iaload, 1), (32, .if_icmp .ge 28, 3), (35, .aload_n 0, 1), (36, .aload_n 2, 1), (37, .getfield 337, 3), (40, .bipush 12, 2), (42, .iload_n 1, 1), (43, .sipush 1000, 3), (46, .irem, 1), (47, .imul, 1), (48, .iload_n 3, 1), (49, .iadd, 1), (50, .baload, 1), (51, .invokevirtual 324, 3), (54, .iinc 3 1, 3), (57, .goto (-36), 3), (60, .return_, 1)]
def x_123 : zCx := (1, false, 0, zCode i_123, [])
def b_123 : zS := (sSeq (sSeq (sSt 3 2 (eP (pIte (kI .lt (pL 1 1) (pI 1000)) (p1 (oGf 1 2 3) (pL 3 0)) (p1 (oGf 1 3 3) (pL 3 0)))))
  (sBlk 3 (sSeq (sSt 1 3 (eP (pI 0)))
  (sWh (cP (kI .lt (pL 1 3) (p2 oIald (p1 (oGf 5 10 3) (pL 3 2)) (p2 oRem (pL 1 1) (pI 1000)))))
  (sCall 121 [(eP (pL 3 0)), (eBy (p1 (oGf 5 9 3) (pL 3 2)) (p2 oAdd (p2 oMul (pI 12) (p2 oRem (pL 1 1) (pI 1000))) (pL 1 3)))])
  (sInc 3 1)))))
  sRet0)
theorem k_123 : b_123.1.1 x_123 (0, true, []) = some ((61, false, []), [], []) := by decide +kernel
/-- LazyForms$Machine.shows -/
def i_124 : List (Nat × Instr × Nat) := [(0, .aload_n 0, 1), (1, .getfield 38, 3), (4, .iload_n 3, 1), (5, .iaload, 1), (6, .iconst 5, 1), (7, .if_icmp .ne 7, 3), (10, .iconst 1, 1), (11, .goto 4, 3), (14, .iconst 0, 1), (15, .istore 4, 2), (17, .aload_n 0, 1), (18, .getfield 41, 3), (21, .iload_n 3, 1), (22, .iaload, 1), (23, .istore 5, 2), (25, .lload_n 1, 1), (26, .iconst 3, 1), (27, .lshr, 1), (28, .l2i, 1), (29, .istore 6, 2), (31, .lload_n 1, 1), (32, .ldc2_w 174, 3), (35, .land, 1), (36, .ldc2_w 180, 3), (39, .lcmp, 1), (40, .ifCond .ne 7, 3), (43, .iconst 1, 1), (44, .goto 4, 3), (47, .iconst 0, 1), (48, .istore 7, 2), (50, .lload_n 1, 1), (51, .ldc2_w 174, 3), (54, .land, 1), (55, .lconst 0, 1), (56, .lcmp, 1), (57, .ifCond .ne 12, 3), (60, .aload_n 0, 1), (61, .iload 6, 2), (63, .invokevirtual 340, 3), (66, .goto 62, 3), (69, .lload_n 1, 1), (70, .ldc2_w 174, 3), (73, .land, 1), (74, .lconst 1, 1), (75, .lcmp, 1), (76, .ifCond .ne 12, 3), (79, .aload_n 0, 1), (80, .iload 6, 2), (82, .invokevirtual 343, 3), (85, .goto 43, 3), (88, .iload 7, 2), (90, .ifCond .eq 17, 3), (93, .aload_n 0, 1), (94, .getfield 18, 3), (97, .iload 6, 2), (99, .laload, 1), (100, .invokestatic 182, 3), (103, .iconst 3, 1), (104, .if_icmp .eq 12, 3), (107, .aload_n 0, 1), (108, .bipush 63, 2), (110, .invokevirtual 324, 3), (113, .goto 15, 3), (116, .aload_n 0, 1), (117, .iload 6, 2), (119, .iload 5, 2), (121, .iconst 1, 1), (122, .isub, 1), (123, .iload 4, 2), (125, .invokevirtual 345, 3), (128, .aload_n 0, 1), (129, .invokevirtual 348, 3), (132, .return_, 1)]
def x_124 : zCx := (1, false, 0, zCode i_124, [])
def b_124 : zS := (sSeq (sSeq (sSt 1 4 (eP (pB (kI .eq (p2 oIald (p1 (oGf 1 12 3) (pL 3 0)) (pL 1 3)) (pI 5)))))
  (sSeq (sSt 1 5 (eP (p2 oIald (p1 (oGf 1 13 3) (pL 3 0)) (pL 1 3))))
  (sSeq (sSt 1 6 (eP (p1 oL2i (p2 oLshr (pL 2 1) (pI 3)))))
  (sSeq (sSt 1 7 (eP (pB (kL .eq (p2 oLand (pL 2 1) (pJ 7)) (pJ 4)))))
  (sSeq (sIfE (cP (kL .eq (p2 oLand (pL 2 1) (pJ 7)) (pJ 0)))
  (sCall 122 [(eP (pL 3 0)), (eP (pL 1 6))])
  (sIfE (cP (kL .eq (p2 oLand (pL 2 1) (pJ 7)) (pJ 1)))
  (sCall 123 [(eP (pL 3 0)), (eP (pL 1 6))])
  (sIfE (cOr (cP (kNot (k0 .ne (pL 1 7)))) (cI .ne (eCall 90 [(eP (p2 oLald (p1 (oGf 1 4 3) (pL 3 0)) (pL 1 6)))]) (eP (pI 3))))
  (sCall 121 [(eP (pL 3 0)), (eP (pI 63))])
  (sCall 125 [(eP (pL 3 0)), (eP (pL 1 6)), (eP (p2 oSub (pL 1 5) (pI 1))), (eP (pL 1 4))]))))
  (sCall 126 [(eP (pL 3 0))]))))))
  sRet0)
theorem k_124 : b_124.1.1 x_124 (0, true, []) = some ((133, false, []), [], []) := by decide +kernel
/-- LazyForms$Machine.made -/
def i_125 : List (Nat × Instr × Nat) := [(0, .aload_n 0, 1), (1, .getfield 18, 3), (4, .iload_n 1, 1), (5, .laload, 1), (6, .invokestatic 192, 3), (9, .istore 4, 2), (11, .iload_n 3, 1), (12, .ifCond .eq 9, 3), (15, .aload_n 0, 1), (16, .bipush 40, 2), (18, .invokevirtual 324, 3), (21, .aload_n 0, 1), (22, .aload_n 0, 1), (23, .getfield 18, 3), (26, .iload_n 1, 1), (27, .laload, 1), (28, .invokestatic 195, 3), (31, .invokevirtual 343, 3), (34, .iload_n 2, 1), (35, .ifCond .ne 42, 3), (38, .iconst 0, 1), (39, .istore 5, 2), (41, .iload 5, 2), (43, .iload 4, 2), (45, .if_icmp .ge 21, 3), (48, .aload_n 0, 1), (49, .bipush 32, 2), (51, .invokevirtual 324, 3), (54, .aload_n 0, 1), (55, .bipush 46, 2), (57, .invokevirtual 324, 3), (60, .iinc 5 1, 3), (63, .goto (-22), 3), (66, .iload_n 3, 1), (67, .ifCond .eq 9, 3), (70, .aload_n 0, 1), (71, .bipush 41, 2), (73, .invokevirtual 324, 3), (76, .return_, 1), (77, .aload_n 0, 1), (78, .iconst 5, 1), (79, .iload_n 2, 1), (80, .invokevirtual 139, 3), (83, .aload_n 0, 1), (84, .getfield 54, 3), (87, .aload_n 0, 1), (88, .getfield 106, 3), (91, .iconst 1, 1), (92, .isub, 1), (93, .iload_n 3, 1), (94, .bastore, 1), (95, .iload 4, 2), (97, .istore 5, 2), (99, .iload 5, 2), (101, .ifCond .le 26, 3), (104, .aload_n 0, 1), (105, .aload_n 0, 1), (106, .aload_n 0, 1), (107, .getfield 18, 3), (110, .iload_n 1, 1), (111, .iload 5, 2), (113, .iadd, 1), (114, .laload, 1), (115, .invokevirtual 237, 3), (118, .invokevirtual 168, 3), (121, .iinc 5 (-1), 3), (124, .goto (-25), 3), (127, .return_, 1)]
def x_125 : zCx := (1, false, 0, zCode i_125, [])
def b_125 : zS := (sSeq (sSeq (sSt 1 4 (eCall 89 [(eP (p2 oLald (p1 (oGf 1 4 3) (pL 3 0)) (pL 1 1)))]))
  (sSeq (sIf (cP (k0 .ne (pL 1 3)))
  (sCall 121 [(eP (pL 3 0)), (eP (pI 40))]))
  (sSeq (sCall 123 [(eP (pL 3 0)), (eCall 91 [(eP (p2 oLald (p1 (oGf 1 4 3) (pL 3 0)) (pL 1 1)))])])
  (sSeq (sIf (cP (k0 .eq (pL 1 2)))
  (sSeq (sBlk 5 (sSeq (sSt 1 5 (eP (pI 0)))
  (sWh (cP (kI .lt (pL 1 5) (pL 1 4)))
  (sSeq (sCall 121 [(eP (pL 3 0)), (eP (pI 32))])
  (sCall 121 [(eP (pL 3 0)), (eP (pI 46))]))
  (sInc 5 1))))
  (sSeq (sIf (cP (k0 .ne (pL 1 3)))
  (sCall 121 [(eP (pL 3 0)), (eP (pI 41))]))
  sRet0)))
  (sSeq (sCall 85 [(eP (pL 3 0)), (eP (pI 5)), (eP (pL 1 2))])
  (sSeq (sSe 3 (eP (p1 (oGf 1 31 3) (pL 3 0))) (eP (p2 oSub (p1 (oGf 1 15 1) (pL 3 0)) (pI 1))) (eP (pL 1 3)))
  (sBlk 5 (sSeq (sSt 1 5 (eP (pL 1 4)))
  (sWh (cP (k0 .gt (pL 1 5)))
  (sCall 86 [(eP (pL 3 0)), (eCall 94 [(eP (pL 3 0)), (eP (p2 oLald (p1 (oGf 1 4 3) (pL 3 0)) (p2 oAdd (pL 1 1) (pL 1 5))))])])
  (sInc 5 (-1)))))))))))
  sRet0)
theorem k_125 : b_125.1.1 x_125 (0, true, []) = some ((128, false, []), [], []) := by decide +kernel
/-- LazyForms$Machine.further -/
def i_126 : List (Nat × Instr × Nat) := [(0, .aload_n 0, 1), (1, .getfield 38, 3), (4, .aload_n 0, 1), (5, .getfield 106, 3), (8, .iconst 1, 1), (9, .isub, 1), (10, .iaload, 1), (11, .iconst 5, 1), (12, .if_icmp .ne 88, 3), (15, .aload_n 0, 1), (16, .invokevirtual 311, 3), (19, .ifCond .le 46, 3), (22, .aload_n 0, 1), (23, .bipush 32, 2), (25, .invokevirtual 324, 3), (28, .aload_n 0, 1), (29, .getfield 44, 3), (32, .aload_n 0, 1), (33, .getfield 106, 3), (36, .dup2, 1), (37, .iaload, 1), (38, .iconst 1, 1), (39, .isub, 1), (40, .iastore, 1), (41, .aload_n 0, 1), (42, .aload_n 0, 1), (43, .getfield 35, 3), (46, .aload_n 0, 1), (47, .getfield 44, 3), (50, .aload_n 0, 1), (51, .getfield 106, 3), (54, .iaload, 1), (55, .laload, 1), (56, .putfield 152, 3), (59, .aload_n 0, 1), (60, .iconst 1, 1), (61, .putfield 148, 3), (64, .return_, 1), (65, .aload_n 0, 1), (66, .getfield 54, 3), (69, .aload_n 0, 1), (70, .getfield 106, 3), (73, .iconst 1, 1), (74, .isub, 1), (75, .baload, 1), (76, .istore_n 1, 1), (77, .aload_n 0, 1), (78, .dup, 1), (79, .getfield 106, 3), (82, .iconst 1, 1), (83, .isub, 1), (84, .putfield 106, 3), (87, .iload_n 1, 1), (88, .ifCond .eq 9, 3), (91, .aload_n 0, 1), (92, .bipush 41, 2), (94, .invokevirtual 324, 3), (97, .goto (-97), 3), (100, .aload_n 0, 1), (101, .iconst 2, 1), (102, .invokevirtual 159, 3), (105, .return_, 1)]
def x_126 : zCx := (1, false, 0, zCode i_126, [])
def b_126 : zS := (sSeq (sSeq (sWh (cP (kI .eq (p2 oIald (p1 (oGf 1 12 3) (pL 3 0)) (p2 oSub (p1 (oGf 1 15 1) (pL 3 0)) (pI 1))) (pI 5)))
  (sBlk 1 (sSeq (sIf (c0 .gt (eCall 112 [(eP (pL 3 0))]))
  (sSeq (sCall 121 [(eP (pL 3 0)), (eP (pI 32))])
  (sSeq (sSeo (eP (p1 (oGf 1 14 3) (pL 3 0))) (eP (p1 (oGf 1 15 1) (pL 3 0))) oSub (eP (pI 1)))
  (sSeq (sPf (eP (pL 3 0)) 1 27 2 (eP (p2 oLald (p1 (oGf 1 11 3) (pL 3 0)) (p2 oIald (p1 (oGf 1 14 3) (pL 3 0)) (p1 (oGf 1 15 1) (pL 3 0))))))
  (sSeq (sPf (eP (pL 3 0)) 1 26 4 (eP (pI 1)))
  sRet0)))))
  (sSeq (sSt 1 1 (eP (p2 oZald (p1 (oGf 1 31 3) (pL 3 0)) (p2 oSub (p1 (oGf 1 15 1) (pL 3 0)) (pI 1)))))
  (sSeq (sPfo (eP (pL 3 0)) 1 15 1 oSub (eP (pI 1)))
  (sIf (cP (k0 .ne (pL 1 1)))
  (sCall 121 [(eP (pL 3 0)), (eP (pI 41))]))))))
  sSkip)
  (sCall 84 [(eP (pL 3 0)), (eP (pI 2))]))
  sRet0)
theorem k_126 : b_126.1.1 x_126 (0, true, []) = some ((106, false, []), [], []) := by decide +kernel
/-- LazyFormsModel.feed -/
def i_127 : List (Nat × Instr × Nat) := [(0, .aload_n 0, 1), (1, .getfield 1, 3), (4, .bipush 20, 2), (6, .iadd, 1), (7, .sipush 2000, 3), (10, .if_icmp .le 5, 3), (13, .iconst (-1), 1), (14, .ireturn, 1), (15, .aload_n 0, 1), (16, .iload_n 1, 1), (17, .invokevirtual 7, 3), (20, .aload_n 0, 1), (21, .iload_n 2, 1), (22, .invokevirtual 7, 3), (25, .aload_n 0, 1), (26, .iload_n 3, 1), (27, .invokevirtual 7, 3), (30, .aload_n 0, 1), (31, .iload 4, 2), (33, .invokevirtual 7, 3), (36, .aload_n 0, 1), (37, .iload 5, 2), (39, .invokevirtual 7, 3), (42, .aload_n 0, 1), (43, .getfield 1, 3), (46, .ireturn, 1)]
def x_127 : zCx := (6, false, 1, zCode i_127, [])
def b_127 : zS := (sSeq (sIf (cP (kI .gt (p2 oAdd (p1 (oGf 6 1 1) (pL 3 0)) (pI 20)) (pI 2000)))
  (sRet 1 (eP (pI (-1)))))
  (sSeq (sCall 128 [(eP (pL 3 0)), (eP (pL 1 1))])
  (sSeq (sCall 128 [(eP (pL 3 0)), (eP (pL 1 2))])
  (sSeq (sCall 128 [(eP (pL 3 0)), (eP (pL 1 3))])
  (sSeq (sCall 128 [(eP (pL 3 0)), (eP (pL 1 4))])
  (sSeq (sCall 128 [(eP (pL 3 0)), (eP (pL 1 5))])
  (sRet 1 (eP (p1 (oGf 6 1 1) (pL 3 0))))))))))
theorem k_127 : b_127.1.1 x_127 (0, true, []) = some ((47, false, []), [], []) := by decide +kernel
/-- LazyFormsModel.word -/
def i_128 : List (Nat × Instr × Nat) := [(0, .bipush 24, 2), (2, .istore_n 2, 1), (3, .iload_n 2, 1), (4, .ifCond .lt 32, 3), (7, .aload_n 0, 1), (8, .getfield 11, 3), (11, .aload_n 0, 1), (12, .getfield 1, 3), (15, .iload_n 1, 1), (16, .iload_n 2, 1), (17, .ishr, 1), (18, .i2b, 1), (19, .bastore, 1), (20, .aload_n 0, 1), (21, .dup, 1), (22, .getfield 1, 3), (25, .iconst 1, 1), (26, .iadd, 1), (27, .putfield 1, 3), (30, .iinc 2 (-8), 3), (33, .goto (-30), 3), (36, .return_, 1)]
def x_128 : zCx := (6, false, 0, zCode i_128, [])
def b_128 : zS := (sSeq (sBlk 2 (sSeq (sSt 1 2 (eP (pI 24)))
  (sWh (cP (k0 .ge (pL 1 2)))
  (sSeq (sSe 2 (eP (p1 (oGf 6 0 3) (pL 3 0))) (eP (p1 (oGf 6 1 1) (pL 3 0))) (eP (p1 oI2b (p2 oShr (pL 1 1) (pL 1 2)))))
  (sPfo (eP (pL 3 0)) 6 1 1 oAdd (eP (pI 1))))
  (sInc 2 (-8)))))
  sRet0)
theorem k_128 : b_128.1.1 x_128 (0, true, []) = some ((37, false, []), [], []) := by decide +kernel
/-- LazyFormsModel.at -/
def i_129 : List (Nat × Instr × Nat) := [(0, .iload_n 1, 1), (1, .sipush 2000, 3), (4, .aload_n 0, 1), (5, .getfield 15, 3), (8, .imul, 1), (9, .aload_n 0, 1), (10, .getfield 18, 3), (13, .aload_n 0, 1), (14, .getfield 15, 3), (17, .iaload, 1), (18, .iadd, 1), (19, .if_icmp .ge 16, 3), (22, .aload_n 0, 1), (23, .getfield 22, 3), (26, .iload_n 1, 1), (27, .baload, 1), (28, .sipush 255, 3), (31, .iand, 1), (32, .goto 4, 3), (35, .iconst (-1), 1), (36, .ireturn, 1)]
def x_129 : zCx := (6, false, 1, zCode i_129, [])
def b_129 : zS := (sRet 1 (eP (pIte (kI .lt (pL 1 1) (p2 oAdd (p2 oMul (pI 2000) (p1 (oGf 6 4 1) (pL 3 0))) (p2 oIald (p1 (oGf 6 3 3) (pL 3 0)) (p1 (oGf 6 4 1) (pL 3 0))))) (p2 oAnd (p2 oBald (p1 (oGf 6 2 3) (pL 3 0)) (pL 1 1)) (pI 255)) (pI (-1)))))
theorem k_129 : b_129.1.1 x_129 (0, true, []) = some ((37, false, []), [], []) := by decide +kernel
/-- LazyFormsModel.in -/
def i_130 : List (Nat × Instr × Nat) := [(0, .iload_n 0, 1), (1, .iload_n 1, 1), (2, .if_icmp .lt 12, 3), (5, .iload_n 0, 1), (6, .iload_n 2, 1), (7, .if_icmp .gt 7, 3), (10, .iconst 1, 1), (11, .goto 4, 3), (14, .iconst 0, 1), (15, .ireturn, 1)]
def x_130 : zCx := (6, false, 4, zCode i_130, [])
def b_130 : zS := (sRet 4 (eP (pB (kAnd (kI .ge (pL 1 0) (pL 1 1)) (kI .le (pL 1 0) (pL 1 2))))))
theorem k_130 : b_130.1.1 x_130 (0, true, []) = some ((16, false, []), [], []) := by decide +kernel
/-- LazyFormsModel.isSmall -/
def i_131 : List (Nat × Instr × Nat) := [(0, .iload_n 0, 1), (1, .bipush 97, 2), (3, .if_icmp .lt 13, 3), (6, .iload_n 0, 1), (7, .bipush 122, 2), (9, .if_icmp .gt 7, 3), (12, .iconst 1, 1), (13, .goto 4, 3), (16, .iconst 0, 1), (17, .ireturn, 1)]
def x_131 : zCx := (6, false, 4, zCode i_131, [])
def b_131 : zS := (sRet 4 (eP (pB (kAnd (kI .ge (pL 1 0) (pI 97)) (kI .le (pL 1 0) (pI 122))))))
theorem k_131 : b_131.1.1 x_131 (0, true, []) = some ((18, false, []), [], []) := by decide +kernel
/-- LazyFormsModel.isGreat -/
def i_132 : List (Nat × Instr × Nat) := [(0, .iload_n 0, 1), (1, .bipush 65, 2), (3, .if_icmp .lt 13, 3), (6, .iload_n 0, 1), (7, .bipush 90, 2), (9, .if_icmp .gt 7, 3), (12, .iconst 1, 1), (13, .goto 4, 3), (16, .iconst 0, 1), (17, .ireturn, 1)]
def x_132 : zCx := (6, false, 4, zCode i_132, [])
def b_132 : zS := (sRet 4 (eP (pB (kAnd (kI .ge (pL 1 0) (pI 65)) (kI .le (pL 1 0) (pI 90))))))
theorem k_132 : b_132.1.1 x_132 (0, true, []) = some ((18, false, []), [], []) := by decide +kernel
/-- LazyFormsModel.isDigit -/
def i_133 : List (Nat × Instr × Nat) := [(0, .iload_n 0, 1), (1, .bipush 48, 2), (3, .if_icmp .lt 13, 3), (6, .iload_n 0, 1), (7, .bipush 57, 2), (9, .if_icmp .gt 7, 3), (12, .iconst 1, 1), (13, .goto 4, 3), (16, .iconst 0, 1), (17, .ireturn, 1)]
def x_133 : zCx := (6, false, 4, zCode i_133, [])
def b_133 : zS := (sRet 4 (eP (pB (kAnd (kI .ge (pL 1 0) (pI 48)) (kI .le (pL 1 0) (pI 57))))))
theorem k_133 : b_133.1.1 x_133 (0, true, []) = some ((18, false, []), [], []) := by decide +kernel
/-- LazyFormsModel.isOf -/
def i_134 : List (Nat × Instr × Nat) := [(0, .iload_n 0, 1), (1, .invokestatic 25, 3), (4, .ifCond .ne 23, 3), (7, .iload_n 0, 1), (8, .invokestatic 29, 3), (11, .ifCond .ne 16, 3), (14, .iload_n 0, 1), (15, .invokestatic 32, 3), (18, .ifCond .ne 9, 3), (21, .iload_n 0, 1), (22, .bipush 95, 2), (24, .if_icmp .ne 7, 3), (27, .iconst 1, 1), (28, .goto 4, 3), (31, .iconst 0, 1), (32, .ireturn, 1)]
def x_134 : zCx := (6, false, 4, zCode i_134, [])
def b_134 : zS := (sRet 4 (eB (cOr (cOr (cOr (c0 .ne (eCall 131 [(eP (pL 1 0))])) (c0 .ne (eCall 132 [(eP (pL 1 0))]))) (c0 .ne (eCall 133 [(eP (pL 1 0))]))) (cP (kI .eq (pL 1 0) (pI 95))))))
theorem k_134 : b_134.1.1 x_134 (0, true, []) = some ((33, false, []), [], []) := by decide +kernel
/-- LazyFormsModel.passed -/
def i_135 : List (Nat × Instr × Nat) := [(0, .iload_n 1, 1), (1, .istore_n 2, 1), (2, .iconst 1, 1), (3, .istore_n 3, 1), (4, .iload_n 3, 1), (5, .ifCond .eq 87, 3), (8, .aload_n 0, 1), (9, .iload_n 2, 1), (10, .invokevirtual 35, 3), (13, .bipush 32, 2), (15, .if_icmp .eq 13, 3), (18, .aload_n 0, 1), (19, .iload_n 2, 1), (20, .invokevirtual 35, 3), (23, .bipush 10, 2), (25, .if_icmp .ne 7, 3), (28, .iconst 1, 1), (29, .goto 4, 3), (32, .iconst 0, 1), (33, .istore_n 3, 1), (34, .iload_n 3, 1), (35, .ifCond .eq 9, 3), (38, .iinc 2 1, 3), (41, .goto (-37), 3), (44, .aload_n 0, 1), (45, .iload_n 2, 1), (46, .invokevirtual 35, 3), (49, .bipush 45, 2), (51, .if_icmp .ne (-47), 3), (54, .aload_n 0, 1), (55, .iload_n 2, 1), (56, .iconst 1, 1), (57, .iadd, 1), (58, .invokevirtual 35, 3), (61, .bipush 45, 2), (63, .if_icmp .ne (-59), 3), (66, .iconst 1, 1), (67, .istore_n 3, 1), (68, .aload_n 0, 1), (69, .iload_n 2, 1), (70, .invokevirtual 35, 3), (73, .ifCond .lt (-69), 3), (76, .aload_n 0, 1), (77, .iload_n 2, 1), (78, .invokevirtual 35, 3), (81, .bipush 10, 2), (83, .if_icmp .eq (-79), 3), (86, .iinc 2 1, 3), (89, .goto (-21), 3), (92, .iload_n 2, 1), (93, .ireturn, 1)]
def x_135 : zCx := (6, false, 1, zCode i_135, [])
def b_135 : zS := (sSeq (sSt 1 2 (eP (pL 1 1)))
  (sSeq (sSt 1 3 (eP (pI 1)))
  (sSeq (sWh (cP (k0 .ne (pL 1 3)))
  (sSeq (sSt 1 3 (eB (cOr (cI .eq (eCall 129 [(eP (pL 3 0)), (eP (pL 1 2))]) (eP (pI 32))) (cI .eq (eCall 129 [(eP (pL 3 0)), (eP (pL 1 2))]) (eP (pI 10))))))
  (sIfE (cP (k0 .ne (pL 1 3)))
  (sInc 2 1)
  (sIf (cAnd (cI .eq (eCall 129 [(eP (pL 3 0)), (eP (pL 1 2))]) (eP (pI 45))) (cI .eq (eCall 129 [(eP (pL 3 0)), (eP (p2 oAdd (pL 1 2) (pI 1)))]) (eP (pI 45))))
  (sSeq (sSt 1 3 (eP (pI 1)))
  (sWh (cAnd (c0 .ge (eCall 129 [(eP (pL 3 0)), (eP (pL 1 2))])) (cI .ne (eCall 129 [(eP (pL 3 0)), (eP (pL 1 2))]) (eP (pI 10))))
  (sInc 2 1)
  sSkip)))))
  sSkip)
  (sRet 1 (eP (pL 1 2))))))
theorem k_135 : b_135.1.1 x_135 (0, true, []) = some ((94, false, []), [], []) := by decide +kernel
/-- LazyFormsModel.scan -/
def i_136 : List (Nat × Instr × Nat) := [(0, .aload_n 0, 1), (1, .iconst 0, 1), (2, .putfield 39, 3), (5, .aload_n 0, 1), (6, .sipush 2000, 3), (9, .aload_n 0, 1), (10, .getfield 15, 3), (13, .imul, 1), (14, .invokevirtual 42, 3), (17, .istore_n 1, 1), (18, .iconst 5, 1), (19, .istore_n 2, 1), (20, .iload_n 2, 1), (21, .ifCond .eq 53, 3), (24, .iload_n 2, 1), (25, .iconst 1, 1), (26, .if_icmp .eq 48, 3), (29, .aload_n 0, 1), (30, .iload_n 1, 1), (31, .invokevirtual 45, 3), (34, .istore_n 3, 1), (35, .aload_n 0, 1), (36, .getfield 48, 3), (39, .aload_n 0, 1), (40, .getfield 39, 3), (43, .iload_n 1, 1), (44, .iastore, 1), (45, .aload_n 0, 1), (46, .getfield 51, 3), (49, .aload_n 0, 1), (50, .getfield 39, 3), (53, .iaload, 1), (54, .istore_n 2, 1), (55, .aload_n 0, 1), (56, .dup, 1), (57, .getfield 39, 3), (60, .iconst 1, 1), (61, .iadd, 1), (62, .putfield 39, 3), (65, .aload_n 0, 1), (66, .iload_n 3, 1), (67, .invokevirtual 42, 3), (70, .istore_n 1, 1), (71, .goto (-51), 3), (74, .aload_n 0, 1), (75, .iconst 0, 1), (76, .putfield 54, 3), (79, .return_, 1)]
def x_136 : zCx := (6, false, 0, zCode i_136, [])
def b_136 : zS := (sSeq (sSeq (sPf (eP (pL 3 0)) 6 5 1 (eP (pI 0)))
  (sSeq (sSt 1 1 (eCall 135 [(eP (pL 3 0)), (eP (p2 oMul (pI 2000) (p1 (oGf 6 4 1) (pL 3 0))))]))
  (sSeq (sSt 1 2 (eP (pI 5)))
  (sSeq (sWh (cP (kAnd (k0 .ne (pL 1 2)) (kI .ne (pL 1 2) (pI 1))))
  (sBlk 3 (sSeq (sSt 1 3 (eCall 137 [(eP (pL 3 0)), (eP (pL 1 1))]))
  (sSeq (sSe 1 (eP (p1 (oGf 6 9 3) (pL 3 0))) (eP (p1 (oGf 6 5 1) (pL 3 0))) (eP (pL 1 1)))
  (sSeq (sSt 1 2 (eP (p2 oIald (p1 (oGf 6 7 3) (pL 3 0)) (p1 (oGf 6 5 1) (pL 3 0)))))
  (sSeq (sPfo (eP (pL 3 0)) 6 5 1 oAdd (eP (pI 1)))
  (sSt 1 1 (eCall 135 [(eP (pL 3 0)), (eP (pL 1 3))])))))))
  sSkip)
  (sPf (eP (pL 3 0)) 6 6 1 (eP (pI 0)))))))
  sRet0)
theorem k_136 : b_136.1.1 x_136 (0, true, []) = some ((80, false, []), [], []) := by decide +kernel
/-- LazyFormsModel.token -/
def i_137 : List (Nat × Instr × Nat) := [(0, .aload_n 0, 1), (1, .iload_n 1, 1), (2, .invokevirtual 35, 3), (5, .istore_n 2, 1), (6, .aload_n 0, 1), (7, .getfield 57, 3), (10, .aload_n 0, 1), (11, .getfield 39, 3), (14, .iconst 0, 1), (15, .iastore, 1), (16, .iload_n 2, 1), (17, .ifCond .ge 15, 3), (20, .aload_n 0, 1), (21, .getfield 51, 3), (24, .aload_n 0, 1), (25, .getfield 39, 3), (28, .iconst 0, 1), (29, .iastore, 1), (30, .iload_n 1, 1), (31, .ireturn, 1), (32, .iload_n 2, 1), (33, .invokestatic 25, 3), (36, .ifCond .ne 10, 3), (39, .iload_n 2, 1), (40, .invokestatic 29, 3), (43, .ifCond .eq 76, 3), (46, .iload_n 1, 1), (47, .iconst 1, 1), (48, .iadd, 1), (49, .istore_n 3, 1), (50, .aload_n 0, 1), (51, .iload_n 3, 1), (52, .invokevirtual 35, 3), (55, .invokestatic 60, 3), (58, .ifCond .eq 9, 3), (61, .iinc 3 1, 3), (64, .goto (-14), 3), (67, .aload_n 0, 1), (68, .getfield 57, 3), (71, .aload_n 0, 1), (72, .getfield 39, 3), (75, .iload_n 1, 1), (76, .iastore, 1), (77, .aload_n 0, 1), (78, .getfield 51, 3), (81, .aload_n 0, 1), (82, .getfield 39, 3), (85, .iload_n 3, 1), (86, .iload_n 1, 1), (87, .isub, 1), (88, .bipush 12, 2), (90, .if_icmp .le 7, 3), (93, .iconst 1, 1), (94, .goto 22, 3), (97, .iload_n 2, 1), (98, .invokestatic 29, 3), (101, .ifCond .eq 7, 3), (104, .iconst 3, 1), (105, .goto 11, 3), (108, .aload_n 0, 1), (109, .iload_n 1, 1), (110, .iload_n 3, 1), (111, .iload_n 1, 1), (112, .isub, 1), (113, .invokevirtual 63, 3), (116, .iastore, 1), (117, .iload_n 3, 1), (118, .ireturn, 1), (119, .iload_n 2, 1), (120, .invokestatic 32, 3), (123, .ifCond .eq 9, 3), (126, .aload_n 0, 1), (127, .iload_n 1, 1), (128, .invokevirtual 67, 3), (131, .ireturn, 1), (132, .aload_n 0, 1), (133, .iload_n 1, 1), (134, .iconst 1, 1), (135, .iadd, 1), (136, .invokevirtual 35, 3), (139, .istore_n 3, 1), (140, .aload_n 0, 1), (141, .getfield 51, 3), (144, .aload_n 0, 1), (145, .getfield 39, 3), (148, .iconst 5, 1), (149, .iastore, 1), (150, .aload_n 0, 1), (151, .getfield 57, 3), (154, .aload_n 0, 1), (155, .getfield 39, 3), (158, .iload_n 2, 1), (159, .bipush 45, 2), (161, .if_icmp .ne 15, 3), (164, .iload_n 3, 1), (165, .bipush 62, 2), (167, .if_icmp .ne 9, 3), (170, .sipush 256, 3), (173, .goto 40, 3), (176, .iload_n 2, 1), (177, .bipush 60, 2), (179, .if_icmp .ne 15, 3), (182, .iload_n 3, 1), (183, .bipush 61, 2), (185, .if_icmp .ne 9, 3), (188, .sipush 257, 3), (191, .goto 22, 3), (194, .iload_n 2, 1), (195, .bipush 61, 2), (197, .if_icmp .ne 15, 3), (200, .iload_n 3, 1), (201, .bipush 61, 2), (203, .if_icmp .ne 9, 3), (206, .sipush 258, 3), (209, .goto 4, 3), (212, .iload_n 2, 1), (213, .iastore, 1), (214, .aload_n 0, 1), (215, .getfield 57, 3), (218, .aload_n 0, 1), (219, .getfield 39, 3), (222, .iaload, 1), (223, .sipush 255, 3), (226, .if_icmp .le 7, 3), (229, .iload_n 1, 1), (230, .iconst 2, 1), (231, .iadd, 1), (232, .ireturn, 1), (233, .iload_n 2, 1), (234, .bipush 40, 2), (236, .if_icmp .eq 75, 3), (239, .iload_n 2, 1), (240, .bipush 41, 2), (242, .if_icmp .eq 69, 3), (245, .iload_n 2, 1), (246, .bipush 123, 2), (248, .if_icmp .eq 63, 3), (251, .iload_n 2, 1), (252, .bipush 125, 2), (254, .if_icmp .eq 57, 3), (257, .iload_n 2, 1), (258, .bipush 59, 2), (260, .if_icmp .eq 51, 3), (263, .iload_n 2, 1), (264, .bipush 61, 2), (266, .if_icmp .eq 45, 3), (269, .iload_n 2, 1), (270, .bipush 92, 2), (272, .if_icmp .eq 39, 3), (275, .iload_n 2, 1), (276, .bipush 43, 2), (278, .if_icmp .eq 33, 3), (281, .iload_n 2, 1), (282, .bipush 45, 2), (284, .if_icmp .eq 27, 3), (287, .iload_n 2, 1), (288, .bipush 42, 2), (290, .if_icmp .eq 21, 3), (293, .iload_n 2, 1), (294, .bipush 47, 2), (296, .if_icmp .eq 15, 3), (299, .iload_n 2, 1), (300, .bipush 60, 2), (302, .if_icmp .eq 9, 3), (305, .iload_n 2, 1), (306, .bipush 95, 2), (308, .if_icmp .ne 7, 3), (311, .iconst 1, 1), (312, .goto 4, 3), (315, .iconst 0, 1), (316, .istore 4, 2), (318, .iload 4, 2), (320, .ifCond .ne 13, 3), (323, .aload_n 0, 1), (324, .getfield 51, 3), (327, .aload_n 0, 1), (328, .getfield 39, 3), (331, .iconst 1, 1), (332, .iastore, 1), (333, .iload_n 1, 1), (334, .iconst 1, 1), (335, .iadd, 1), (336, .ireturn, 1)]
def x_137 : zCx := (6, false, 1, zCode i_137, [])
def b_137 : zS := (sSeq (sSt 1 2 (eCall 129 [(eP (pL 3 0)), (eP (pL 1 1))]))
  (sSeq (sSe 1 (eP (p1 (oGf 6 8 3) (pL 3 0))) (eP (p1 (oGf 6 5 1) (pL 3 0))) (eP (pI 0)))
  (sSeq (sIf (cP (k0 .lt (pL 1 2)))
  (sSeq (sSe 1 (eP (p1 (oGf 6 7 3) (pL 3 0))) (eP (p1 (oGf 6 5 1) (pL 3 0))) (eP (pI 0)))
  (sRet 1 (eP (pL 1 1)))))
  (sSeq (sIf (cOr (c0 .ne (eCall 131 [(eP (pL 1 2))])) (c0 .ne (eCall 132 [(eP (pL 1 2))])))
  (sBlk 3 (sSeq (sSt 1 3 (eP (p2 oAdd (pL 1 1) (pI 1))))
  (sSeq (sWh (c0 .ne (eCall 134 [(eCall 129 [(eP (pL 3 0)), (eP (pL 1 3))])]))
  (sInc 3 1)
  sSkip)
  (sSeq (sSe 1 (eP (p1 (oGf 6 8 3) (pL 3 0))) (eP (p1 (oGf 6 5 1) (pL 3 0))) (eP (pL 1 1)))
  (sSeq (sSe 1 (eP (p1 (oGf 6 7 3) (pL 3 0))) (eP (p1 (oGf 6 5 1) (pL 3 0))) (eIte (cP (kI .gt (p2 oSub (pL 1 3) (pL 1 1)) (pI 12))) (eP (pI 1)) (eIte (c0 .ne (eCall 132 [(eP (pL 1 2))])) (eP (pI 3)) (eCall 139 [(eP (pL 3 0)), (eP (pL 1 1)), (eP (p2 oSub (pL 1 3) (pL 1 1)))]))))
  (sRet 1 (eP (pL 1 3)))))))))
  (sSeq (sIf (c0 .ne (eCall 133 [(eP (pL 1 2))]))
  (sRet 1 (eCall 141 [(eP (pL 3 0)), (eP (pL 1 1))])))
  (sSeq (sSt 1 3 (eCall 129 [(eP (pL 3 0)), (eP (p2 oAdd (pL 1 1) (pI 1)))]))
  (sSeq (sSe 1 (eP (p1 (oGf 6 7 3) (pL 3 0))) (eP (p1 (oGf 6 5 1) (pL 3 0))) (eP (pI 5)))
  (sSeq (sSe 1 (eP (p1 (oGf 6 8 3) (pL 3 0))) (eP (p1 (oGf 6 5 1) (pL 3 0))) (eP (pIte (kAnd (kI .eq (pL 1 2) (pI 45)) (kI .eq (pL 1 3) (pI 62))) (pI 256) (pIte (kAnd (kI .eq (pL 1 2) (pI 60)) (kI .eq (pL 1 3) (pI 61))) (pI 257) (pIte (kAnd (kI .eq (pL 1 2) (pI 61)) (kI .eq (pL 1 3) (pI 61))) (pI 258) (pL 1 2))))))
  (sSeq (sIf (cP (kI .gt (p2 oIald (p1 (oGf 6 8 3) (pL 3 0)) (p1 (oGf 6 5 1) (pL 3 0))) (pI 255)))
  (sRet 1 (eP (p2 oAdd (pL 1 1) (pI 2)))))
  (sSeq (sSt 1 4 (eP (pB (kOr (kOr (kOr (kOr (kOr (kOr (kOr (kOr (kOr (kOr (kOr (kOr (kI .eq (pL 1 2) (pI 40)) (kI .eq (pL 1 2) (pI 41))) (kI .eq (pL 1 2) (pI 123))) (kI .eq (pL 1 2) (pI 125))) (kI .eq (pL 1 2) (pI 59))) (kI .eq (pL 1 2) (pI 61))) (kI .eq (pL 1 2) (pI 92))) (kI .eq (pL 1 2) (pI 43))) (kI .eq (pL 1 2) (pI 45))) (kI .eq (pL 1 2) (pI 42))) (kI .eq (pL 1 2) (pI 47))) (kI .eq (pL 1 2) (pI 60))) (kI .eq (pL 1 2) (pI 95))))))
  (sSeq (sIf (cP (kNot (k0 .ne (pL 1 4))))
  (sSe 1 (eP (p1 (oGf 6 7 3) (pL 3 0))) (eP (p1 (oGf 6 5 1) (pL 3 0))) (eP (pI 1))))
  (sRet 1 (eP (p2 oAdd (pL 1 1) (pI 1)))))))))))))))
theorem k_137 : b_137.1.1 x_137 (0, true, []) = some ((337, false, []), [], []) := by decide +kernel
/-- LazyFormsModel.isWord -/
def i_138 : List (Nat × Instr × Nat) := [(0, .iload 6, 2), (2, .ifCond .le 7, 3), (5, .iconst 4, 1), (6, .goto 13, 3), (9, .iload 5, 2), (11, .ifCond .le 7, 3), (14, .iconst 3, 1), (15, .goto 4, 3), (18, .iconst 2, 1), (19, .istore 7, 2), (21, .iload_n 2, 1), (22, .iload 7, 2), (24, .if_icmp .ne 68, 3), (27, .aload_n 0, 1), (28, .getfield 22, 3), (31, .iload_n 1, 1), (32, .baload, 1), (33, .iload_n 3, 1), (34, .if_icmp .ne 58, 3), (37, .aload_n 0, 1), (38, .getfield 22, 3), (41, .iload_n 1, 1), (42, .iconst 1, 1), (43, .iadd, 1), (44, .baload, 1), (45, .iload 4, 2), (47, .if_icmp .ne 45, 3), (50, .iload 7, 2), (52, .iconst 3, 1), (53, .if_icmp .lt 16, 3), (56, .aload_n 0, 1), (57, .getfield 22, 3), (60, .iload_n 1, 1), (61, .iconst 2, 1), (62, .iadd, 1), (63, .baload, 1), (64, .iload 5, 2), (66, .if_icmp .ne 26, 3), (69, .iload 7, 2), (71, .iconst 4, 1), (72, .if_icmp .lt 16, 3), (75, .aload_n 0, 1), (76, .getfield 22, 3), (79, .iload_n 1, 1), (80, .iconst 3, 1), (81, .iadd, 1), (82, .baload, 1), (83, .iload 6, 2), (85, .if_icmp .ne 7, 3), (88, .iconst 1, 1), (89, .goto 4, 3), (92, .iconst 0, 1), (93, .ireturn, 1)]
def x_138 : zCx := (6, false, 4, zCode i_138, [])
def b_138 : zS := (sSeq (sSt 1 7 (eP (pIte (k0 .gt (pL 1 6)) (pI 4) (pIte (k0 .gt (pL 1 5)) (pI 3) (pI 2)))))
  (sRet 4 (eP (pB (kAnd (kAnd (kAnd (kAnd (kI .eq (pL 1 2) (pL 1 7)) (kI .eq (p2 oBald (p1 (oGf 6 2 3) (pL 3 0)) (pL 1 1)) (pL 1 3))) (kI .eq (p2 oBald (p1 (oGf 6 2 3) (pL 3 0)) (p2 oAdd (pL 1 1) (pI 1))) (pL 1 4))) (kOr (kI .lt (pL 1 7) (pI 3)) (kI .eq (p2 oBald (p1 (oGf 6 2 3) (pL 3 0)) (p2 oAdd (pL 1 1) (pI 2))) (pL 1 5)))) (kOr (kI .lt (pL 1 7) (pI 4)) (kI .eq (p2 oBald (p1 (oGf 6 2 3) (pL 3 0)) (p2 oAdd (pL 1 1) (pI 3))) (pL 1 6))))))))
theorem k_138 : b_138.1.1 x_138 (0, true, []) = some ((94, false, []), [], []) := by decide +kernel
/-- LazyFormsModel.named -/
def i_139 : List (Nat × Instr × Nat) := [(0, .aload_n 0, 1), (1, .iload_n 1, 1), (2, .iload_n 2, 1), (3, .bipush 108, 2), (5, .bipush 101, 2), (7, .bipush 116, 2), (9, .iconst 0, 1), (10, .invokevirtual 70, 3), (13, .ifCond .eq 6, 3), (16, .bipush 6, 2), (18, .ireturn, 1), (19, .aload_n 0, 1), (20, .iload_n 1, 1), (21, .iload_n 2, 1), (22, .bipush 105, 2), (24, .bipush 110, 2), (26, .iconst 0, 1), (27, .iconst 0, 1), (28, .invokevirtual 70, 3), (31, .ifCond .eq 6, 3), (34, .bipush 7, 2), (36, .ireturn, 1), (37, .aload_n 0, 1), (38, .iload_n 1, 1), (39, .iload_n 2, 1), (40, .bipush 99, 2), (42, .bipush 97, 2), (44, .bipush 115, 2), (46, .bipush 101, 2), (48, .invokevirtual 70, 3), (51, .ifCond .eq 6, 3), (54, .bipush 8, 2), (56, .ireturn, 1), (57, .aload_n 0, 1), (58, .iload_n 1, 1), (59, .iload_n 2, 1), (60, .bipush 111, 2), (62, .bipush 102, 2), (64, .iconst 0, 1), (65, .iconst 0, 1), (66, .invokevirtual 70, 3), (69, .ifCond .eq 8, 3), (72, .bipush 9, 2), (74, .goto 4, 3), (77, .iconst 2, 1), (78, .ireturn, 1)]
def x_139 : zCx := (6, false, 1, zCode i_139, [])
def b_139 : zS := (sSeq (sIf (c0 .ne (eCall 138 [(eP (pL 3 0)), (eP (pL 1 1)), (eP (pL 1 2)), (eP (pI 108)), (eP (pI 101)), (eP (pI 116)), (eP (pI 0))]))
  (sRet 1 (eP (pI 6))))
  (sSeq (sIf (c0 .ne (eCall 138 [(eP (pL 3 0)), (eP (pL 1 1)), (eP (pL 1 2)), (eP (pI 105)), (eP (pI 110)), (eP (pI 0)), (eP (pI 0))]))
  (sRet 1 (eP (pI 7))))
  (sSeq (sIf (c0 .ne (eCall 138 [(eP (pL 3 0)), (eP (pL 1 1)), (eP (pL 1 2)), (eP (pI 99)), (eP (pI 97)), (eP (pI 115)), (eP (pI 101))]))
  (sRet 1 (eP (pI 8))))
  (sRet 1 (eIte (c0 .ne (eCall 138 [(eP (pL 3 0)), (eP (pL 1 1)), (eP (pL 1 2)), (eP (pI 111)), (eP (pI 102)), (eP (pI 0)), (eP (pI 0))])) (eP (pI 9)) (eP (pI 2)))))))
theorem k_139 : b_139.1.1 x_139 (0, true, []) = some ((79, false, []), [], []) := by decide +kernel
/-- LazyFormsModel.named -/
def i_140 : List (Nat × Instr × Nat) := [(0, .aload_n 0, 1), (1, .getfield 211, 3), (4, .iload_n 1, 1), (5, .iaload, 1), (6, .ifCond .lt 17, 3), (9, .aload_n 0, 1), (10, .getfield 372, 3), (13, .aload_n 0, 1), (14, .getfield 211, 3), (17, .iload_n 1, 1), (18, .iaload, 1), (19, .laload, 1), (20, .goto 15, 3), (23, .ldc2_w 306, 3), (26, .aload_n 0, 1), (27, .getfield 89, 3), (30, .iload_n 1, 1), (31, .iaload, 1), (32, .invokestatic 439, 3), (35, .lreturn, 1)]
def x_140 : zCx := (6, false, 2, zCode i_140, [])
def b_140 : zS := (sRet 2 (eIte (cP (k0 .ge (p2 oIald (p1 (oGf 6 25 3) (pL 3 0)) (pL 1 1)))) (eP (p2 oLald (p1 (oGf 6 58 3) (pL 3 0)) (p2 oIald (p1 (oGf 6 25 3) (pL 3 0)) (pL 1 1)))) (eCall 186 [(eP (pJ 12884901888)), (eP (p2 oIald (p1 (oGf 6 14 3) (pL 3 0)) (pL 1 1)))])))
theorem k_140 : b_140.1.1 x_140 (0, true, []) = some ((36, false, []), [], []) := by decide +kernel
/-- LazyFormsModel.number -/
def i_141 : List (Nat × Instr × Nat) := [(0, .iload_n 1, 1), (1, .istore_n 2, 1), (2, .iconst 0, 1), (3, .istore_n 3, 1), (4, .aload_n 0, 1), (5, .iload_n 2, 1), (6, .invokevirtual 35, 3), (9, .invokestatic 32, 3), (12, .ifCond .eq 31, 3), (15, .iload_n 2, 1), (16, .iload_n 1, 1), (17, .isub, 1), (18, .bipush 9, 2), (20, .if_icmp .ge 17, 3), (23, .bipush 10, 2), (25, .iload_n 3, 1), (26, .imul, 1), (27, .aload_n 0, 1), (28, .iload_n 2, 1), (29, .invokevirtual 35, 3), (32, .iadd, 1), (33, .bipush 48, 2), (35, .isub, 1), (36, .istore_n 3, 1), (37, .iinc 2 1, 3), (40, .goto (-36), 3), (43, .aload_n 0, 1), (44, .getfield 57, 3), (47, .aload_n 0, 1), (48, .getfield 39, 3), (51, .iload_n 3, 1), (52, .iastore, 1), (53, .aload_n 0, 1), (54, .getfield 51, 3), (57, .aload_n 0, 1), (58, .getfield 39, 3), (61, .iload_n 2, 1), (62, .iload_n 1, 1), (63, .isub, 1), (64, .bipush 9, 2), (66, .if_icmp .gt 20, 3), (69, .iload_n 2, 1), (70, .iload_n 1, 1), (71, .isub, 1), (72, .iconst 1, 1), (73, .if_icmp .le 17, 3), (76, .aload_n 0, 1), (77, .iload_n 1, 1), (78, .invokevirtual 35, 3), (81, .bipush 48, 2), (83, .if_icmp .ne 7, 3), (86, .iconst 1, 1), (87, .goto 4, 3), (90, .iconst 4, 1), (91, .iastore, 1), (92, .iload_n 2, 1), (93, .ireturn, 1)]
def x_141 : zCx := (6, false, 1, zCode i_141, [])
def b_141 : zS := (sSeq (sSt 1 2 (eP (pL 1 1)))
  (sSeq (sSt 1 3 (eP (pI 0)))
  (sSeq (sWh (c0 .ne (eCall 133 [(eCall 129 [(eP (pL 3 0)), (eP (pL 1 2))])]))
  (sSeq (sIf (cP (kI .lt (p2 oSub (pL 1 2) (pL 1 1)) (pI 9)))
  (sSt 1 3 (e2 oSub (e2 oAdd (eP (p2 oMul (pI 10) (pL 1 3))) (eCall 129 [(eP (pL 3 0)), (eP (pL 1 2))])) (eP (pI 48)))))
  (sInc 2 1))
  sSkip)
  (sSeq (sSe 1 (eP (p1 (oGf 6 8 3) (pL 3 0))) (eP (p1 (oGf 6 5 1) (pL 3 0))) (eP (pL 1 3)))
  (sSeq (sSe 1 (eP (p1 (oGf 6 7 3) (pL 3 0))) (eP (p1 (oGf 6 5 1) (pL 3 0))) (eIte (cOr (cP (kI .gt (p2 oSub (pL 1 2) (pL 1 1)) (pI 9))) (cAnd (cP (kI .gt (p2 oSub (pL 1 2) (pL 1 1)) (pI 1))) (cI .eq (eCall 129 [(eP (pL 3 0)), (eP (pL 1 1))]) (eP (pI 48))))) (eP (pI 1)) (eP (pI 4))))
  (sRet 1 (eP (pL 1 2))))))))
theorem k_141 : b_141.1.1 x_141 (0, true, []) = some ((94, false, []), [], []) := by decide +kernel
/-- LazyFormsModel.sizeAt -/
def i_142 : List (Nat × Instr × Nat) := [(0, .iload_n 1, 1), (1, .sipush 8000, 3), (4, .if_icmp .lt 9, 3), (7, .sipush 8009, 3), (10, .goto 23, 3), (13, .sipush 2000, 3), (16, .iload_n 1, 1), (17, .sipush 2000, 3), (20, .idiv, 1), (21, .imul, 1), (22, .aload_n 0, 1), (23, .getfield 18, 3), (26, .iload_n 1, 1), (27, .sipush 2000, 3), (30, .idiv, 1), (31, .iaload, 1), (32, .iadd, 1), (33, .istore_n 2, 1), (34, .iconst 1, 1), (35, .istore_n 3, 1), (36, .iload_n 1, 1), (37, .iload_n 3, 1), (38, .iadd, 1), (39, .iload_n 2, 1), (40, .if_icmp .ge 32, 3), (43, .aload_n 0, 1), (44, .getfield 22, 3), (47, .iload_n 1, 1), (48, .iload_n 3, 1), (49, .iadd, 1), (50, .baload, 1), (51, .invokestatic 60, 3), (54, .ifCond .eq 18, 3), (57, .iload_n 1, 1), (58, .iload_n 3, 1), (59, .iadd, 1), (60, .sipush 8004, 3), (63, .if_icmp .eq 9, 3), (66, .iinc 3 1, 3), (69, .goto (-33), 3), (72, .iload_n 3, 1), (73, .ireturn, 1)]
def x_142 : zCx := (6, false, 1, zCode i_142, [])
def b_142 : zS := (sSeq (sSt 1 2 (eP (pIte (kI .ge (pL 1 1) (pI 8000)) (pI 8009) (p2 oAdd (p2 oMul (pI 2000) (p2 oDiv (pL 1 1) (pI 2000))) (p2 oIald (p1 (oGf 6 3 3) (pL 3 0)) (p2 oDiv (pL 1 1) (pI 2000)))))))
  (sSeq (sSt 1 3 (eP (pI 1)))
  (sSeq (sWh (cAnd (cAnd (cP (kI .lt (p2 oAdd (pL 1 1) (pL 1 3)) (pL 1 2))) (c0 .ne (eCall 134 [(eBy (p1 (oGf 6 2 3) (pL 3 0)) (p2 oAdd (pL 1 1) (pL 1 3)))]))) (cP (kI .ne (p2 oAdd (pL 1 1) (pL 1 3)) (pI 8004))))
  (sInc 3 1)
  sSkip)
  (sRet 1 (eP (pL 1 3))))))
theorem k_142 : b_142.1.1 x_142 (0, true, []) = some ((74, false, []), [], []) := by decide +kernel
/-- LazyFormsModel.alike -/
def i_143 : List (Nat × Instr × Nat) := [(0, .aload_n 0, 1), (1, .iload_n 1, 1), (2, .invokevirtual 74, 3), (5, .istore_n 3, 1), (6, .iload_n 3, 1), (7, .aload_n 0, 1), (8, .iload_n 2, 1), (9, .invokevirtual 74, 3), (12, .if_icmp .ne 7, 3), (15, .iconst 1, 1), (16, .goto 4, 3), (19, .iconst 0, 1), (20, .istore 4, 2), (22, .iconst 0, 1), (23, .istore 5, 2), (25, .iload 5, 2), (27, .iload_n 3, 1), (28, .if_icmp .ge 42, 3), (31, .iload 4, 2), (33, .ifCond .eq 37, 3), (36, .aload_n 0, 1), (37, .getfield 22, 3), (40, .iload_n 1, 1), (41, .iload 5, 2), (43, .iadd, 1), (44, .baload, 1), (45, .aload_n 0, 1), (46, .getfield 22, 3), (49, .iload_n 2, 1), (50, .iload 5, 2), (52, .iadd, 1), (53, .baload, 1), (54, .if_icmp .ne 7, 3), (57, .iconst 1, 1), (58, .goto 4, 3), (61, .iconst 0, 1), (62, .istore 4, 2), (64, .iinc 5 1, 3), (67, .goto (-42), 3), (70, .iload 4, 2), (72, .ireturn, 1)]
def x_143 : zCx := (6, false, 4, zCode i_143, [])
def b_143 : zS := (sSeq (sSt 1 3 (eCall 142 [(eP (pL 3 0)), (eP (pL 1 1))]))
  (sSeq (sSt 1 4 (eB (cI .eq (eP (pL 1 3)) (eCall 142 [(eP (pL 3 0)), (eP (pL 1 2))]))))
  (sSeq (sBlk 5 (sSeq (sSt 1 5 (eP (pI 0)))
  (sWh (cP (kAnd (kI .lt (pL 1 5) (pL 1 3)) (k0 .ne (pL 1 4))))
  (sSt 1 4 (eP (pB (kI .eq (p2 oBald (p1 (oGf 6 2 3) (pL 3 0)) (p2 oAdd (pL 1 1) (pL 1 5))) (p2 oBald (p1 (oGf 6 2 3) (pL 3 0)) (p2 oAdd (pL 1 2) (pL 1 5)))))))
  (sInc 5 1))))
  (sRet 4 (eP (pL 1 4))))))
theorem k_143 : b_143.1.1 x_143 (0, true, []) = some ((73, false, []), [], []) := by decide +kernel
/-- LazyFormsModel.node -/
def i_144 : List (Nat × Instr × Nat) := [(0, .sipush 4000, 3), (3, .aload_n 0, 1), (4, .getfield 15, 3), (7, .imul, 1), (8, .aload_n 0, 1), (9, .getfield 77, 3), (12, .iadd, 1), (13, .istore 6, 2), (15, .aload_n 0, 1), (16, .dup, 1), (17, .getfield 77, 3), (20, .iconst 1, 1), (21, .iadd, 1), (22, .putfield 77, 3), (25, .aload_n 0, 1), (26, .getfield 80, 3), (29, .iload 6, 2), (31, .iload_n 1, 1), (32, .iastore, 1), (33, .aload_n 0, 1), (34, .getfield 83, 3), (37, .iload 6, 2), (39, .iload_n 2, 1), (40, .iastore, 1), (41, .aload_n 0, 1), (42, .getfield 86, 3), (45, .iload 6, 2), (47, .iload_n 3, 1), (48, .iastore, 1), (49, .aload_n 0, 1), (50, .getfield 89, 3), (53, .iload 6, 2), (55, .iload 4, 2), (57, .iastore, 1), (58, .aload_n 0, 1), (59, .getfield 92, 3), (62, .iload 6, 2), (64, .iconst (-1), 1), (65, .iastore, 1), (66, .aload_n 0, 1), (67, .getfield 95, 3), (70, .iload 6, 2), (72, .aload_n 0, 1), (73, .getfield 48, 3), (76, .iload 5, 2), (78, .iaload, 1), (79, .iastore, 1), (80, .aload_n 0, 1), (81, .getfield 98, 3), (84, .iload 6, 2), (86, .iconst 0, 1), (87, .iastore, 1), (88, .aload_n 0, 1), (89, .getfield 101, 3), (92, .iload 6, 2), (94, .iconst 0, 1), (95, .iastore, 1), (96, .iload 6, 2), (98, .ireturn, 1)]
def x_144 : zCx := (6, false, 1, zCode i_144, [])
def b_144 : zS := (sSeq (sSt 1 6 (eP (p2 oAdd (p2 oMul (pI 4000) (p1 (oGf 6 4 1) (pL 3 0))) (p1 (oGf 6 10 1) (pL 3 0)))))
  (sSeq (sPfo (eP (pL 3 0)) 6 10 1 oAdd (eP (pI 1)))
  (sSeq (sSe 1 (eP (p1 (oGf 6 11 3) (pL 3 0))) (eP (pL 1 6)) (eP (pL 1 1)))
  (sSeq (sSe 1 (eP (p1 (oGf 6 12 3) (pL 3 0))) (eP (pL 1 6)) (eP (pL 1 2)))
  (sSeq (sSe 1 (eP (p1 (oGf 6 13 3) (pL 3 0))) (eP (pL 1 6)) (eP (pL 1 3)))
  (sSeq (sSe 1 (eP (p1 (oGf 6 14 3) (pL 3 0))) (eP (pL 1 6)) (eP (pL 1 4)))
  (sSeq (sSe 1 (eP (p1 (oGf 6 15 3) (pL 3 0))) (eP (pL 1 6)) (eP (pI (-1))))
  (sSeq (sSe 1 (eP (p1 (oGf 6 16 3) (pL 3 0))) (eP (pL 1 6)) (eP (p2 oIald (p1 (oGf 6 9 3) (pL 3 0)) (pL 1 5))))
  (sSeq (sSe 1 (eP (p1 (oGf 6 17 3) (pL 3 0))) (eP (pL 1 6)) (eP (pI 0)))
  (sSeq (sSe 1 (eP (p1 (oGf 6 18 3) (pL 3 0))) (eP (pL 1 6)) (eP (pI 0)))
  (sRet 1 (eP (pL 1 6)))))))))))))
theorem k_144 : b_144.1.1 x_144 (0, true, []) = some ((99, false, []), [], []) := by decide +kernel
/-- LazyFormsModel.wrong -/
def i_145 : List (Nat × Instr × Nat) := [(0, .aload_n 0, 1), (1, .iload_n 1, 1), (2, .putfield 104, 3), (5, .aload_n 0, 1), (6, .aload_n 0, 1), (7, .getfield 48, 3), (10, .aload_n 0, 1), (11, .getfield 54, 3), (14, .iaload, 1), (15, .sipush 2000, 3), (18, .aload_n 0, 1), (19, .getfield 15, 3), (22, .imul, 1), (23, .isub, 1), (24, .putfield 107, 3), (27, .getstatic 110, 3), (30, .areturn, 1)]
def x_145 : zCx := (6, false, 3, zCode i_145, [])
def b_145 : zS := (sSeq (sPf (eP (pL 3 0)) 6 19 1 (eP (pL 1 1)))
  (sSeq (sPf (eP (pL 3 0)) 6 20 1 (eP (p2 oSub (p2 oIald (p1 (oGf 6 9 3) (pL 3 0)) (p1 (oGf 6 6 1) (pL 3 0))) (p2 oMul (pI 2000) (p1 (oGf 6 4 1) (pL 3 0))))))
  (sRet 3 (eP (pS 3)))))
theorem k_145 : b_145.1.1 x_145 (0, true, []) = some ((31, false, []), [], []) := by decide +kernel
/-- LazyFormsModel.isSign -/
def i_146 : List (Nat × Instr × Nat) := [(0, .aload_n 0, 1), (1, .getfield 51, 3), (4, .aload_n 0, 1), (5, .getfield 54, 3), (8, .iaload, 1), (9, .iconst 5, 1), (10, .if_icmp .ne 20, 3), (13, .aload_n 0, 1), (14, .getfield 57, 3), (17, .aload_n 0, 1), (18, .getfield 54, 3), (21, .iaload, 1), (22, .iload_n 1, 1), (23, .if_icmp .ne 7, 3), (26, .iconst 1, 1), (27, .goto 4, 3), (30, .iconst 0, 1), (31, .ireturn, 1)]
def x_146 : zCx := (6, false, 4, zCode i_146, [])
def b_146 : zS := (sRet 4 (eP (pB (kAnd (kI .eq (p2 oIald (p1 (oGf 6 7 3) (pL 3 0)) (p1 (oGf 6 6 1) (pL 3 0))) (pI 5)) (kI .eq (p2 oIald (p1 (oGf 6 8 3) (pL 3 0)) (p1 (oGf 6 6 1) (pL 3 0))) (pL 1 1))))))
theorem k_146 : b_146.1.1 x_146 (0, true, []) = some ((32, false, []), [], []) := by decide +kernel
/-- LazyFormsModel.passes -/
def i_147 : List (Nat × Instr × Nat) := [(0, .aload_n 0, 1), (1, .iload_n 1, 1), (2, .invokevirtual 114, 3), (5, .istore_n 2, 1), (6, .iload_n 2, 1), (7, .ifCond .eq 13, 3), (10, .aload_n 0, 1), (11, .dup, 1), (12, .getfield 54, 3), (15, .iconst 1, 1), (16, .iadd, 1), (17, .putfield 54, 3), (20, .iload_n 2, 1), (21, .ireturn, 1)]
def x_147 : zCx := (6, false, 4, zCode i_147, [])
def b_147 : zS := (sSeq (sSt 1 2 (eCall 146 [(eP (pL 3 0)), (eP (pL 1 1))]))
  (sSeq (sIf (cP (k0 .ne (pL 1 2)))
  (sPfo (eP (pL 3 0)) 6 6 1 oAdd (eP (pI 1))))
  (sRet 4 (eP (pL 1 2)))))
theorem k_147 : b_147.1.1 x_147 (0, true, []) = some ((22, false, []), [], []) := by decide +kernel
/-- LazyFormsModel.need -/
def i_148 : List (Nat × Instr × Nat) := [(0, .aload_n 0, 1), (1, .iload_n 1, 1), (2, .invokevirtual 117, 3), (5, .ifCond .ne 9, 3), (8, .aload_n 0, 1), (9, .iconst 1, 1), (10, .invokevirtual 120, 3), (13, .athrow, 1), (14, .return_, 1)]
def x_148 : zCx := (6, false, 0, zCode i_148, [])
def b_148 : zS := (sSeq (sIf (cNot (c0 .ne (eCall 147 [(eP (pL 3 0)), (eP (pL 1 1))])))
  (sThr (eCall 145 [(eP (pL 3 0)), (eP (pI 1))])))
  sRet0)
theorem k_148 : b_148.1.1 x_148 (0, true, []) = some ((15, false, []), [], []) := by decide +kernel
/-- LazyFormsModel.needKind -/
def i_149 : List (Nat × Instr × Nat) := [(0, .aload_n 0, 1), (1, .getfield 51, 3), (4, .aload_n 0, 1), (5, .getfield 54, 3), (8, .iaload, 1), (9, .iload_n 1, 1), (10, .if_icmp .eq 9, 3), (13, .aload_n 0, 1), (14, .iconst 1, 1), (15, .invokevirtual 120, 3), (18, .athrow, 1), (19, .aload_n 0, 1), (20, .dup, 1), (21, .getfield 54, 3), (24, .iconst 1, 1), (25, .iadd, 1), (26, .putfield 54, 3), (29, .return_, 1)]
def x_149 : zCx := (6, false, 0, zCode i_149, [])
def b_149 : zS := (sSeq (sSeq (sIf (cP (kI .ne (p2 oIald (p1 (oGf 6 7 3) (pL 3 0)) (p1 (oGf 6 6 1) (pL 3 0))) (pL 1 1)))
  (sThr (eCall 145 [(eP (pL 3 0)), (eP (pI 1))])))
  (sPfo (eP (pL 3 0)) 6 6 1 oAdd (eP (pI 1))))
  sRet0)
theorem k_149 : b_149.1.1 x_149 (0, true, []) = some ((30, false, []), [], []) := by decide +kernel
/-- LazyFormsModel.names -/
def i_150 : List (Nat × Instr × Nat) := [(0, .iconst (-1), 1), (1, .istore_n 2, 1), (2, .iconst (-1), 1), (3, .istore_n 3, 1), (4, .aload_n 0, 1), (5, .getfield 51, 3), (8, .aload_n 0, 1), (9, .getfield 54, 3), (12, .iaload, 1), (13, .iconst 2, 1), (14, .if_icmp .eq 16, 3), (17, .iload_n 1, 1), (18, .ifCond .eq 86, 3), (21, .aload_n 0, 1), (22, .bipush 95, 2), (24, .invokevirtual 114, 3), (27, .ifCond .eq 77, 3), (30, .aload_n 0, 1), (31, .bipush 10, 2), (33, .aload_n 0, 1), (34, .getfield 51, 3), (37, .aload_n 0, 1), (38, .getfield 54, 3), (41, .iaload, 1), (42, .iconst 2, 1), (43, .if_icmp .ne 15, 3), (46, .aload_n 0, 1), (47, .getfield 57, 3), (50, .aload_n 0, 1), (51, .getfield 54, 3), (54, .iaload, 1), (55, .goto 4, 3), (58, .iconst (-1), 1), (59, .iconst (-1), 1), (60, .iconst (-1), 1), (61, .aload_n 0, 1), (62, .getfield 54, 3), (65, .invokevirtual 124, 3), (68, .istore 4, 2), (70, .aload_n 0, 1), (71, .dup, 1), (72, .getfield 54, 3), (75, .iconst 1, 1), (76, .iadd, 1), (77, .putfield 54, 3), (80, .iload_n 2, 1), (81, .ifCond .ge 9, 3), (84, .iload 4, 2), (86, .istore_n 2, 1), (87, .goto 11, 3), (90, .aload_n 0, 1), (91, .getfield 92, 3), (94, .iload_n 3, 1), (95, .iload 4, 2), (97, .iastore, 1), (98, .iload 4, 2), (100, .istore_n 3, 1), (101, .goto (-97), 3), (104, .iload_n 2, 1), (105, .ireturn, 1)]
def x_150 : zCx := (6, false, 1, zCode i_150, [])
def b_150 : zS := (sSeq (sSt 1 2 (eP (pI (-1))))
  (sSeq (sSt 1 3 (eP (pI (-1))))
  (sSeq (sWh (cOr (cP (kI .eq (p2 oIald (p1 (oGf 6 7 3) (pL 3 0)) (p1 (oGf 6 6 1) (pL 3 0))) (pI 2))) (cAnd (cP (k0 .ne (pL 1 1))) (c0 .ne (eCall 146 [(eP (pL 3 0)), (eP (pI 95))]))))
  (sBlk 4 (sSeq (sSt 1 4 (eCall 144 [(eP (pL 3 0)), (eP (pI 10)), (eP (pIte (kI .eq (p2 oIald (p1 (oGf 6 7 3) (pL 3 0)) (p1 (oGf 6 6 1) (pL 3 0))) (pI 2)) (p2 oIald (p1 (oGf 6 8 3) (pL 3 0)) (p1 (oGf 6 6 1) (pL 3 0))) (pI (-1)))), (eP (pI (-1))), (eP (pI (-1))), (eP (p1 (oGf 6 6 1) (pL 3 0)))]))
  (sSeq (sPfo (eP (pL 3 0)) 6 6 1 oAdd (eP (pI 1)))
  (sSeq (sIfE (cP (k0 .lt (pL 1 2)))
  (sSt 1 2 (eP (pL 1 4)))
  (sSe 1 (eP (p1 (oGf 6 15 3) (pL 3 0))) (eP (pL 1 3)) (eP (pL 1 4))))
  (sSt 1 3 (eP (pL 1 4)))))))
  sSkip)
  (sRet 1 (eP (pL 1 2))))))
theorem k_150 : b_150.1.1 x_150 (0, true, []) = some ((106, false, []), [], []) := by decide +kernel
/-- LazyFormsModel.program -/
def i_151 : List (Nat × Instr × Nat) := [(0, .aload_n 0, 1), (1, .iconst 0, 1), (2, .putfield 128, 3), (5, .aload_n 0, 1), (6, .getfield 51, 3), (9, .aload_n 0, 1), (10, .getfield 54, 3), (13, .iaload, 1), (14, .ifCond .eq 54, 3), (17, .aload_n 0, 1), (18, .getfield 51, 3), (21, .aload_n 0, 1), (22, .getfield 54, 3), (25, .iaload, 1), (26, .iconst 2, 1), (27, .if_icmp .eq 9, 3), (30, .aload_n 0, 1), (31, .iconst 1, 1), (32, .invokevirtual 120, 3), (35, .athrow, 1), (36, .aload_n 0, 1), (37, .getfield 131, 3), (40, .aload_n 0, 1), (41, .getfield 128, 3), (44, .aload_n 0, 1), (45, .invokevirtual 134, 3), (48, .iastore, 1), (49, .aload_n 0, 1), (50, .dup, 1), (51, .getfield 128, 3), (54, .iconst 1, 1), (55, .iadd, 1), (56, .putfield 128, 3), (59, .aload_n 0, 1), (60, .bipush 59, 2), (62, .invokevirtual 138, 3), (65, .goto (-60), 3), (68, .return_, 1)]
def x_151 : zCx := (6, false, 0, zCode i_151, [])
def b_151 : zS := (sSeq (sSeq (sPf (eP (pL 3 0)) 6 23 1 (eP (pI 0)))
  (sWh (cP (k0 .ne (p2 oIald (p1 (oGf 6 7 3) (pL 3 0)) (p1 (oGf 6 6 1) (pL 3 0)))))
  (sSeq (sIf (cP (kI .ne (p2 oIald (p1 (oGf 6 7 3) (pL 3 0)) (p1 (oGf 6 6 1) (pL 3 0))) (pI 2)))
  (sThr (eCall 145 [(eP (pL 3 0)), (eP (pI 1))])))
  (sSeq (sSe 1 (eP (p1 (oGf 6 24 3) (pL 3 0))) (eP (p1 (oGf 6 23 1) (pL 3 0))) (eCall 152 [(eP (pL 3 0))]))
  (sSeq (sPfo (eP (pL 3 0)) 6 23 1 oAdd (eP (pI 1)))
  (sCall 148 [(eP (pL 3 0)), (eP (pI 59))]))))
  sSkip))
  sRet0)
theorem k_151 : b_151.1.1 x_151 (0, true, []) = some ((69, false, []), [], []) := by decide +kernel
/-- LazyFormsModel.binding -/
def i_152 : List (Nat × Instr × Nat) := [(0, .aload_n 0, 1), (1, .getfield 54, 3), (4, .istore_n 1, 1), (5, .aload_n 0, 1), (6, .iconst 2, 1), (7, .invokevirtual 141, 3), (10, .aload_n 0, 1), (11, .bipush 8, 2), (13, .aload_n 0, 1), (14, .getfield 57, 3), (17, .iload_n 1, 1), (18, .iaload, 1), (19, .iconst (-1), 1), (20, .iconst (-1), 1), (21, .iload_n 1, 1), (22, .invokevirtual 124, 3), (25, .istore_n 2, 1), (26, .aload_n 0, 1), (27, .getfield 86, 3), (30, .iload_n 2, 1), (31, .aload_n 0, 1), (32, .iconst 0, 1), (33, .invokevirtual 144, 3), (36, .iastore, 1), (37, .aload_n 0, 1), (38, .bipush 61, 2), (40, .invokevirtual 138, 3), (43, .aload_n 0, 1), (44, .getfield 89, 3), (47, .iload_n 2, 1), (48, .aload_n 0, 1), (49, .invokevirtual 148, 3), (52, .iastore, 1), (53, .iload_n 2, 1), (54, .ireturn, 1)]
def x_152 : zCx := (6, false, 1, zCode i_152, [])
def b_152 : zS := (sSeq (sSt 1 1 (eP (p1 (oGf 6 6 1) (pL 3 0))))
  (sSeq (sCall 149 [(eP (pL 3 0)), (eP (pI 2))])
  (sSeq (sSt 1 2 (eCall 144 [(eP (pL 3 0)), (eP (pI 8)), (eP (p2 oIald (p1 (oGf 6 8 3) (pL 3 0)) (pL 1 1))), (eP (pI (-1))), (eP (pI (-1))), (eP (pL 1 1))]))
  (sSeq (sSe 1 (eP (p1 (oGf 6 13 3) (pL 3 0))) (eP (pL 1 2)) (eCall 150 [(eP (pL 3 0)), (eP (pI 0))]))
  (sSeq (sCall 148 [(eP (pL 3 0)), (eP (pI 61))])
  (sSeq (sSe 1 (eP (p1 (oGf 6 14 3) (pL 3 0))) (eP (pL 1 2)) (eCall 156 [(eP (pL 3 0))]))
  (sRet 1 (eP (pL 1 2)))))))))
theorem k_152 : b_152.1.1 x_152 (0, true, []) = some ((55, false, []), [], []) := by decide +kernel
/-- LazyFormsModel.begins -/
def i_153 : List (Nat × Instr × Nat) := [(0, .aload_n 0, 1), (1, .getfield 51, 3), (4, .aload_n 0, 1), (5, .getfield 54, 3), (8, .iaload, 1), (9, .istore_n 1, 1), (10, .iload_n 1, 1), (11, .bipush 6, 2), (13, .if_icmp .eq 25, 3), (16, .iload_n 1, 1), (17, .bipush 8, 2), (19, .if_icmp .eq 19, 3), (22, .aload_n 0, 1), (23, .bipush 92, 2), (25, .invokevirtual 114, 3), (28, .ifCond .ne 10, 3), (31, .aload_n 0, 1), (32, .invokevirtual 151, 3), (35, .ifCond .eq 7, 3), (38, .iconst 1, 1), (39, .goto 4, 3), (42, .iconst 0, 1), (43, .ireturn, 1)]
def x_153 : zCx := (6, false, 4, zCode i_153, [])
def b_153 : zS := (sSeq (sSt 1 1 (eP (p2 oIald (p1 (oGf 6 7 3) (pL 3 0)) (p1 (oGf 6 6 1) (pL 3 0)))))
  (sRet 4 (eB (cOr (cOr (cP (kOr (kI .eq (pL 1 1) (pI 6)) (kI .eq (pL 1 1) (pI 8)))) (c0 .ne (eCall 146 [(eP (pL 3 0)), (eP (pI 92))]))) (c0 .ne (eCall 155 [(eP (pL 3 0))]))))))
theorem k_153 : b_153.1.1 x_153 (0, true, []) = some ((44, false, []), [], []) := by decide +kernel
/-- LazyFormsModel.begins -/
def i_154 : List (Nat × Instr × Nat) := [(0, .aload_n 0, 1), (1, .aload_n 0, 1), (2, .getfield 365, 3), (5, .bipush 16, 2), (7, .iload_n 1, 1), (8, .imul, 1), (9, .aload_n 0, 1), (10, .getfield 356, 3), (13, .iload_n 1, 1), (14, .iaload, 1), (15, .iadd, 1), (16, .laload, 1), (17, .putfield 378, 3), (20, .aload_n 0, 1), (21, .iconst 1, 1), (22, .putfield 375, 3), (25, .return_, 1)]
def x_154 : zCx := (6, false, 0, zCode i_154, [])
def b_154 : zS := (sSeq (sSeq (sPf (eP (pL 3 0)) 6 59 2 (eP (p2 oLald (p1 (oGf 6 55 3) (pL 3 0)) (p2 oAdd (p2 oMul (pI 16) (pL 1 1)) (p2 oIald (p1 (oGf 6 52 3) (pL 3 0)) (pL 1 1))))))
  (sPf (eP (pL 3 0)) 6 56 4 (eP (pI 1))))
  sRet0)
theorem k_154 : b_154.1.1 x_154 (0, true, []) = some ((26, false, []), [], []) := by decide +kernel
/-- LazyFormsModel.isAtom -/
def i_155 : List (Nat × Instr × Nat) := [(0, .aload_n 0, 1), (1, .getfield 51, 3), (4, .aload_n 0, 1), (5, .getfield 54, 3), (8, .iaload, 1), (9, .istore_n 1, 1), (10, .iload_n 1, 1), (11, .iconst 2, 1), (12, .if_icmp .eq 22, 3), (15, .iload_n 1, 1), (16, .iconst 4, 1), (17, .if_icmp .eq 17, 3), (20, .iload_n 1, 1), (21, .iconst 3, 1), (22, .if_icmp .eq 12, 3), (25, .aload_n 0, 1), (26, .bipush 40, 2), (28, .invokevirtual 114, 3), (31, .ifCond .eq 7, 3), (34, .iconst 1, 1), (35, .goto 4, 3), (38, .iconst 0, 1), (39, .ireturn, 1)]
def x_155 : zCx := (6, false, 4, zCode i_155, [])
def b_155 : zS := (sSeq (sSt 1 1 (eP (p2 oIald (p1 (oGf 6 7 3) (pL 3 0)) (p1 (oGf 6 6 1) (pL 3 0)))))
  (sRet 4 (eB (cOr (cP (kOr (kOr (kI .eq (pL 1 1) (pI 2)) (kI .eq (pL 1 1) (pI 4))) (kI .eq (pL 1 1) (pI 3)))) (c0 .ne (eCall 146 [(eP (pL 3 0)), (eP (pI 40))]))))))
theorem k_155 : b_155.1.1 x_155 (0, true, []) = some ((40, false, []), [], []) := by decide +kernel
/-- LazyFormsModel.ex -/
def i_156 : List (Nat × Instr × Nat) := [(0, .aload_n 0, 1), (1, .invokevirtual 155, 3), (4, .ifCond .ne 9, 3), (7, .aload_n 0, 1), (8, .iconst 1, 1), (9, .invokevirtual 120, 3), (12, .athrow, 1), (13, .aload_n 0, 1), (14, .getfield 158, 3), (17, .bipush 20, 2), (19, .if_icmp .ne 9, 3), (22, .aload_n 0, 1), (23, .iconst 3, 1), (24, .invokevirtual 120, 3), (27, .athrow, 1), (28, .aload_n 0, 1), (29, .dup, 1), (30, .getfield 158, 3), (33, .iconst 1, 1), (34, .iadd, 1), (35, .putfield 158, 3), (38, .aload_n 0, 1), (39, .getfield 54, 3), (42, .istore_n 1, 1), (43, .aload_n 0, 1), (44, .bipush 92, 2), (46, .invokevirtual 117, 3), (49, .ifCond .eq 12, 3), (52, .aload_n 0, 1), (53, .iload_n 1, 1), (54, .invokevirtual 161, 3), (57, .istore_n 2, 1), (58, .goto 52, 3), (61, .aload_n 0, 1), (62, .getfield 51, 3), (65, .aload_n 0, 1), (66, .getfield 54, 3), (69, .iaload, 1), (70, .bipush 6, 2), (72, .if_icmp .ne 11, 3), (75, .aload_n 0, 1), (76, .invokevirtual 164, 3), (79, .istore_n 2, 1), (80, .goto 30, 3), (83, .aload_n 0, 1), (84, .getfield 51, 3), (87, .aload_n 0, 1), (88, .getfield 54, 3), (91, .iaload, 1), (92, .bipush 8, 2), (94, .if_icmp .ne 11, 3), (97, .aload_n 0, 1), (98, .invokevirtual 167, 3), (101, .istore_n 2, 1), (102, .goto 8, 3), (105, .aload_n 0, 1), (106, .invokevirtual 170, 3), (109, .istore_n 2, 1), (110, .aload_n 0, 1), (111, .dup, 1), (112, .getfield 158, 3), (115, .iconst 1, 1), (116, .isub, 1), (117, .putfield 158, 3), (120, .iload_n 2, 1), (121, .ireturn, 1)]
def x_156 : zCx := (6, false, 1, zCode i_156, [])
def b_156 : zS := (sSeq (sIf (cNot (c0 .ne (eCall 153 [(eP (pL 3 0))])))
  (sThr (eCall 145 [(eP (pL 3 0)), (eP (pI 1))])))
  (sSeq (sIf (cP (kI .eq (p1 (oGf 6 22 1) (pL 3 0)) (pI 20)))
  (sThr (eCall 145 [(eP (pL 3 0)), (eP (pI 3))])))
  (sSeq (sPfo (eP (pL 3 0)) 6 22 1 oAdd (eP (pI 1)))
  (sSeq (sSt 1 1 (eP (p1 (oGf 6 6 1) (pL 3 0))))
  (sSeq (sIfE (c0 .ne (eCall 147 [(eP (pL 3 0)), (eP (pI 92))]))
  (sSt 1 2 (eCall 157 [(eP (pL 3 0)), (eP (pL 1 1))]))
  (sIfE (cP (kI .eq (p2 oIald (p1 (oGf 6 7 3) (pL 3 0)) (p1 (oGf 6 6 1) (pL 3 0))) (pI 6)))
  (sSt 1 2 (eCall 158 [(eP (pL 3 0))]))
  (sIfE (cP (kI .eq (p2 oIald (p1 (oGf 6 7 3) (pL 3 0)) (p1 (oGf 6 6 1) (pL 3 0))) (pI 8)))
  (sSt 1 2 (eCall 160 [(eP (pL 3 0))]))
  (sSt 1 2 (eCall 162 [(eP (pL 3 0))])))))
  (sSeq (sPfo (eP (pL 3 0)) 6 22 1 oSub (eP (pI 1)))
  (sRet 1 (eP (pL 1 2)))))))))
theorem k_156 : b_156.1.1 x_156 (0, true, []) = some ((122, false, []), [], []) := by decide +kernel
/-- LazyFormsModel.function -/
def i_157 : List (Nat × Instr × Nat) := [(0, .aload_n 0, 1), (1, .getfield 51, 3), (4, .aload_n 0, 1), (5, .getfield 54, 3), (8, .iaload, 1), (9, .iconst 2, 1), (10, .if_icmp .eq 9, 3), (13, .aload_n 0, 1), (14, .iconst 1, 1), (15, .invokevirtual 120, 3), (18, .athrow, 1), (19, .aload_n 0, 1), (20, .iconst 3, 1), (21, .aload_n 0, 1), (22, .iconst 0, 1), (23, .invokevirtual 144, 3), (26, .iconst (-1), 1), (27, .iconst (-1), 1), (28, .iload_n 1, 1), (29, .invokevirtual 124, 3), (32, .istore_n 2, 1), (33, .aload_n 0, 1), (34, .sipush 256, 3), (37, .invokevirtual 138, 3), (40, .aload_n 0, 1), (41, .getfield 86, 3), (44, .iload_n 2, 1), (45, .aload_n 0, 1), (46, .invokevirtual 148, 3), (49, .iastore, 1), (50, .iload_n 2, 1), (51, .ireturn, 1)]
def x_157 : zCx := (6, false, 1, zCode i_157, [])
def b_157 : zS := (sSeq (sIf (cP (kI .ne (p2 oIald (p1 (oGf 6 7 3) (pL 3 0)) (p1 (oGf 6 6 1) (pL 3 0))) (pI 2)))
  (sThr (eCall 145 [(eP (pL 3 0)), (eP (pI 1))])))
  (sSeq (sSt 1 2 (eCall 144 [(eP (pL 3 0)), (eP (pI 3)), (eCall 150 [(eP (pL 3 0)), (eP (pI 0))]), (eP (pI (-1))), (eP (pI (-1))), (eP (pL 1 1))]))
  (sSeq (sCall 148 [(eP (pL 3 0)), (eP (pI 256))])
  (sSeq (sSe 1 (eP (p1 (oGf 6 13 3) (pL 3 0))) (eP (pL 1 2)) (eCall 156 [(eP (pL 3 0))]))
  (sRet 1 (eP (pL 1 2)))))))
theorem k_157 : b_157.1.1 x_157 (0, true, []) = some ((52, false, []), [], []) := by decide +kernel
/-- LazyFormsModel.let -/
def i_158 : List (Nat × Instr × Nat) := [(0, .aload_n 0, 1), (1, .getfield 54, 3), (4, .istore_n 1, 1), (5, .aload_n 0, 1), (6, .dup, 1), (7, .getfield 54, 3), (10, .iconst 1, 1), (11, .iadd, 1), (12, .putfield 54, 3), (15, .aload_n 0, 1), (16, .iconst 4, 1), (17, .iconst (-1), 1), (18, .iconst (-1), 1), (19, .iconst (-1), 1), (20, .iload_n 1, 1), (21, .invokevirtual 124, 3), (24, .istore_n 2, 1), (25, .iconst (-1), 1), (26, .istore_n 3, 1), (27, .aload_n 0, 1), (28, .invokevirtual 134, 3), (31, .istore 4, 2), (33, .iload_n 3, 1), (34, .ifCond .ge 14, 3), (37, .aload_n 0, 1), (38, .getfield 83, 3), (41, .iload_n 2, 1), (42, .iload 4, 2), (44, .iastore, 1), (45, .goto 11, 3), (48, .aload_n 0, 1), (49, .getfield 92, 3), (52, .iload_n 3, 1), (53, .iload 4, 2), (55, .iastore, 1), (56, .iload 4, 2), (58, .istore_n 3, 1), (59, .aload_n 0, 1), (60, .bipush 59, 2), (62, .invokevirtual 117, 3), (65, .ifCond .ne (-38), 3), (68, .aload_n 0, 1), (69, .bipush 7, 2), (71, .invokevirtual 141, 3), (74, .aload_n 0, 1), (75, .getfield 86, 3), (78, .iload_n 2, 1), (79, .aload_n 0, 1), (80, .invokevirtual 148, 3), (83, .iastore, 1), (84, .iload_n 2, 1), (85, .ireturn, 1)]
def x_158 : zCx := (6, false, 1, zCode i_158, [])
def b_158 : zS := (sSeq (sSt 1 1 (eP (p1 (oGf 6 6 1) (pL 3 0))))
  (sSeq (sPfo (eP (pL 3 0)) 6 6 1 oAdd (eP (pI 1)))
  (sSeq (sSt 1 2 (eCall 144 [(eP (pL 3 0)), (eP (pI 4)), (eP (pI (-1))), (eP (pI (-1))), (eP (pI (-1))), (eP (pL 1 1))]))
  (sSeq (sSt 1 3 (eP (pI (-1))))
  (sSeq (sDo (sBlk 4 (sSeq (sSt 1 4 (eCall 152 [(eP (pL 3 0))]))
  (sSeq (sIfE (cP (k0 .lt (pL 1 3)))
  (sSe 1 (eP (p1 (oGf 6 12 3) (pL 3 0))) (eP (pL 1 2)) (eP (pL 1 4)))
  (sSe 1 (eP (p1 (oGf 6 15 3) (pL 3 0))) (eP (pL 1 3)) (eP (pL 1 4))))
  (sSt 1 3 (eP (pL 1 4))))))
  (c0 .ne (eCall 147 [(eP (pL 3 0)), (eP (pI 59))])))
  (sSeq (sCall 149 [(eP (pL 3 0)), (eP (pI 7))])
  (sSeq (sSe 1 (eP (p1 (oGf 6 13 3) (pL 3 0))) (eP (pL 1 2)) (eCall 156 [(eP (pL 3 0))]))
  (sRet 1 (eP (pL 1 2))))))))))
theorem k_158 : b_158.1.1 x_158 (0, true, []) = some ((86, false, []), [], []) := by decide +kernel
/-- LazyFormsModel.let -/
def i_159 : List (Nat × Instr × Nat) := [(0, .aload_n 0, 1), (1, .aload_n 0, 1), (2, .getfield 89, 3), (5, .iload_n 1, 1), (6, .iaload, 1), (7, .aload_n 0, 1), (8, .getfield 98, 3), (11, .iload_n 1, 1), (12, .iaload, 1), (13, .invokevirtual 459, 3), (16, .ifCond .ne 4, 3), (19, .return_, 1), (20, .aload_n 0, 1), (21, .getfield 83, 3), (24, .iload_n 1, 1), (25, .iaload, 1), (26, .istore_n 2, 1), (27, .iload_n 2, 1), (28, .ifCond .lt 103, 3), (31, .aload_n 0, 1), (32, .getfield 86, 3), (35, .iload_n 2, 1), (36, .iaload, 1), (37, .ifCond .lt 7, 3), (40, .iload_n 2, 1), (41, .goto 9, 3), (44, .aload_n 0, 1), (45, .getfield 89, 3), (48, .iload_n 2, 1), (49, .iaload, 1), (50, .istore_n 3, 1), (51, .aload_n 0, 1), (52, .getfield 80, 3), (55, .iload_n 3, 1), (56, .iaload, 1), (57, .ifCond .eq 22, 3), (60, .aload_n 0, 1), (61, .getfield 80, 3), (64, .iload_n 3, 1), (65, .iaload, 1), (66, .iconst 1, 1), (67, .if_icmp .ne 16, 3), (70, .aload_n 0, 1), (71, .getfield 86, 3), (74, .iload_n 3, 1), (75, .iaload, 1), (76, .ifCond .ge 7, 3), (79, .iconst 1, 1), (80, .goto 4, 3), (83, .iconst 0, 1), (84, .istore 4, 2), (86, .aload_n 0, 1), (87, .getfield 372, 3), (90, .aload_n 0, 1), (91, .getfield 211, 3), (94, .iload_n 2, 1), (95, .iaload, 1), (96, .iload 4, 2), (98, .ifCond .eq 11, 3), (101, .aload_n 0, 1), (102, .iload_n 3, 1), (103, .invokevirtual 436, 3), (106, .goto 14, 3), (109, .ldc2_w 301, 3), (112, .aload_n 0, 1), (113, .iload_n 3, 1), (114, .invokevirtual 447, 3), (117, .invokestatic 439, 3), (120, .lastore, 1), (121, .aload_n 0, 1), (122, .getfield 92, 3), (125, .iload_n 2, 1), (126, .iaload, 1), (127, .istore_n 2, 1), (128, .goto (-101), 3), (131, .aload_n 0, 1), (132, .getfield 83, 3), (135, .iload_n 1, 1), (136, .iaload, 1), (137, .istore_n 2, 1), (138, .iload_n 2, 1), (139, .ifCond .lt 79, 3), (142, .aload_n 0, 1), (143, .getfield 86, 3), (146, .iload_n 2, 1), (147, .iaload, 1), (148, .ifCond .lt 7, 3), (151, .iload_n 2, 1), (152, .goto 9, 3), (155, .aload_n 0, 1), (156, .getfield 89, 3), (159, .iload_n 2, 1), (160, .iaload, 1), (161, .istore_n 3, 1), (162, .aload_n 0, 1), (163, .getfield 80, 3), (166, .iload_n 3, 1), (167, .iaload, 1), (168, .ifCond .eq 40, 3), (171, .aload_n 0, 1), (172, .getfield 80, 3), (175, .iload_n 3, 1), (176, .iaload, 1), (177, .iconst 1, 1), (178, .if_icmp .ne 12, 3), (181, .aload_n 0, 1), (182, .getfield 86, 3), (185, .iload_n 3, 1), (186, .iaload, 1), (187, .ifCond .lt 21, 3), (190, .aload_n 0, 1), (191, .aload_n 0, 1), (192, .getfield 372, 3), (195, .aload_n 0, 1), (196, .getfield 211, 3), (199, .iload_n 2, 1), (200, .iaload, 1), (201, .laload, 1), (202, .invokestatic 293, 3), (205, .invokevirtual 450, 3), (208, .aload_n 0, 1), (209, .getfield 92, 3), (212, .iload_n 2, 1), (213, .iaload, 1), (214, .istore_n 2, 1), (215, .goto (-77), 3), (218, .aload_n 0, 1), (219, .aload_n 0, 1), (220, .getfield 86, 3), (223, .iload_n 1, 1), (224, .iaload, 1), (225, .putfield 462, 3), (228, .return_, 1)]
def x_159 : zCx := (6, false, 0, zCode i_159, [])
def b_159 : zS := (sSeq (sSeq (sIf (cNot (c0 .ne (eCall 195 [(eP (pL 3 0)), (eP (p2 oIald (p1 (oGf 6 14 3) (pL 3 0)) (pL 1 1))), (eP (p2 oIald (p1 (oGf 6 17 3) (pL 3 0)) (pL 1 1)))])))
  sRet0)
  (sSeq (sBlk 2 (sSeq (sSt 1 2 (eP (p2 oIald (p1 (oGf 6 12 3) (pL 3 0)) (pL 1 1))))
  (sWh (cP (k0 .ge (pL 1 2)))
  (sBlk 3 (sSeq (sSt 1 3 (eP (pIte (k0 .ge (p2 oIald (p1 (oGf 6 13 3) (pL 3 0)) (pL 1 2))) (pL 1 2) (p2 oIald (p1 (oGf 6 14 3) (pL 3 0)) (pL 1 2)))))
  (sSeq (sSt 1 4 (eP (pB (kOr (k0 .eq (p2 oIald (p1 (oGf 6 11 3) (pL 3 0)) (pL 1 3))) (kAnd (kI .eq (p2 oIald (p1 (oGf 6 11 3) (pL 3 0)) (pL 1 3)) (pI 1)) (k0 .lt (p2 oIald (p1 (oGf 6 13 3) (pL 3 0)) (pL 1 3))))))))
  (sSe 4 (eP (p1 (oGf 6 58 3) (pL 3 0))) (eP (p2 oIald (p1 (oGf 6 25 3) (pL 3 0)) (pL 1 2))) (eIte (cP (k0 .ne (pL 1 4))) (eCall 199 [(eP (pL 3 0)), (eP (pL 1 3))]) (eCall 186 [(eP (pJ 17179869184)), (eCall 200 [(eP (pL 3 0)), (eP (pL 1 3))])]))))))
  (sSt 1 2 (eP (p2 oIald (p1 (oGf 6 15 3) (pL 3 0)) (pL 1 2)))))))
  (sSeq (sBlk 2 (sSeq (sSt 1 2 (eP (p2 oIald (p1 (oGf 6 12 3) (pL 3 0)) (pL 1 1))))
  (sWh (cP (k0 .ge (pL 1 2)))
  (sBlk 3 (sSeq (sSt 1 3 (eP (pIte (k0 .ge (p2 oIald (p1 (oGf 6 13 3) (pL 3 0)) (pL 1 2))) (pL 1 2) (p2 oIald (p1 (oGf 6 14 3) (pL 3 0)) (pL 1 2)))))
  (sIf (cP (kAnd (k0 .ne (p2 oIald (p1 (oGf 6 11 3) (pL 3 0)) (pL 1 3))) (kOr (kI .ne (p2 oIald (p1 (oGf 6 11 3) (pL 3 0)) (pL 1 3)) (pI 1)) (k0 .ge (p2 oIald (p1 (oGf 6 13 3) (pL 3 0)) (pL 1 3))))))
  (sCall 201 [(eP (pL 3 0)), (eCall 184 [(eP (p2 oLald (p1 (oGf 6 58 3) (pL 3 0)) (p2 oIald (p1 (oGf 6 25 3) (pL 3 0)) (pL 1 2))))])]))))
  (sSt 1 2 (eP (p2 oIald (p1 (oGf 6 15 3) (pL 3 0)) (pL 1 2)))))))
  (sPf (eP (pL 3 0)) 6 57 1 (eP (p2 oIald (p1 (oGf 6 13 3) (pL 3 0)) (pL 1 1)))))))
  sRet0)
theorem k_159 : b_159.1.1 x_159 (0, true, []) = some ((229, false, []), [], []) := by decide +kernel
