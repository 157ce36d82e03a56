/-- LazyForms$Machine.behind -/
def i_80 : List (Nat × Instr × Nat) := [(0, .iload_n 1, 1), (1, .aload_n 0, 1), (2, .iload_n 1, 1), (3, .invokevirtual 69, 3), (6, .getfield 90, 3), (9, .iload_n 1, 1), (10, .sipush 4096, 3), (13, .irem, 1), (14, .iaload, 1), (15, .invokestatic 93, 3), (18, .ireturn, 1)]
def x_80 : zCx := (1, false, 1, zCode i_80, [])
def b_80 : zS := (sRet 1 (eCall 79 [(eP (pL 1 1)), (e2 oIald (e1 (oGf 5 6 3) (eCall 73 [(eP (pL 3 0)), (eP (pL 1 1))])) (eP (p2 oRem (pL 1 1) (pI 4096))))]))
theorem k_80 : b_80.1.1 x_80 (0, true, []) = some ((19, false, []), [], []) := by decide +kernel
/-- LazyForms$Machine.load -/
def i_81 : List (Nat × Instr × Nat) := [(0, .aload_n 0, 1), (1, .aload_n 1, 1), (2, .putfield 62, 3), (5, .aload_n 0, 1), (6, .iconst 0, 1), (7, .putfield 97, 3), (10, .aload_n 0, 1), (11, .iconst 0, 1), (12, .putfield 100, 3), (15, .aload_n 0, 1), (16, .iconst 0, 1), (17, .putfield 103, 3), (20, .aload_n 0, 1), (21, .iconst 0, 1), (22, .putfield 106, 3), (25, .aload_n 0, 1), (26, .getfield 44, 3), (29, .iconst 0, 1), (30, .iconst 0, 1), (31, .iastore, 1), (32, .aload_n 0, 1), (33, .invokevirtual 109, 3), (36, .iconst 0, 1), (37, .istore_n 2, 1), (38, .iload_n 2, 1), (39, .aload_n 1, 1), (40, .getfield 112, 3), (43, .if_icmp .ge 29, 3), (46, .aload_n 0, 1), (47, .getfield 25, 3), (50, .iload_n 2, 1), (51, .aload_n 1, 1), (52, .getfield 115, 3), (55, .iload_n 2, 1), (56, .iaload, 1), (57, .ifCond .le 7, 3), (60, .iconst 0, 1), (61, .goto 4, 3), (64, .iconst 1, 1), (65, .iastore, 1), (66, .iinc 2 1, 3), (69, .goto (-31), 3), (72, .return_, 1)]
def x_81 : zCx := (1, false, 0, zCode i_81, [])
def b_81 : zS := (sSeq (sSeq (sPf (eP (pL 3 0)) 1 2 3 (eP (pL 3 1)))
  (sSeq (sPf (eP (pL 3 0)) 1 6 1 (eP (pI 0)))
  (sSeq (sPf (eP (pL 3 0)) 1 7 1 (eP (pI 0)))
  (sSeq (sPf (eP (pL 3 0)) 1 17 1 (eP (pI 0)))
  (sSeq (sPf (eP (pL 3 0)) 1 15 1 (eP (pI 0)))
  (sSeq (sSe 1 (eP (p1 (oGf 1 14 3) (pL 3 0))) (eP (pI 0)) (eP (pI 0)))
  (sSeq (sCall 83 [(eP (pL 3 0))])
  (sBlk 2 (sSeq (sSt 1 2 (eP (pI 0)))
  (sWh (cP (kI .lt (pL 1 2) (p1 (oGf 5 16 1) (pL 3 1))))
  (sSe 1 (eP (p1 (oGf 1 8 3) (pL 3 0))) (eP (pL 1 2)) (eP (pIte (k0 .gt (p2 oIald (p1 (oGf 5 14 3) (pL 3 1)) (pL 1 2))) (pI 0) (pI 1))))
  (sInc 2 1)))))))))))
  sRet0)
theorem k_81 : b_81.1.1 x_81 (0, true, []) = some ((73, false, []), [], []) := by decide +kernel
/-- LazyForms$Machine.ask -/
def i_82 : List (Nat × Instr × Nat) := [(0, .aload_n 0, 1), (1, .aload_n 1, 1), (2, .putfield 66, 3), (5, .aload_n 0, 1), (6, .iconst 0, 1), (7, .putfield 106, 3), (10, .aload_n 0, 1), (11, .getfield 44, 3), (14, .iconst 0, 1), (15, .iconst 0, 1), (16, .iastore, 1), (17, .aload_n 0, 1), (18, .iconst 0, 1), (19, .putfield 118, 3), (22, .aload_n 0, 1), (23, .iconst 0, 1), (24, .putfield 121, 3), (27, .aload_n 0, 1), (28, .iconst 0, 1), (29, .putfield 124, 3), (32, .aload_n 0, 1), (33, .iconst 0, 1), (34, .putfield 127, 3), (37, .aload_n 0, 1), (38, .iconst 0, 1), (39, .putfield 130, 3), (42, .aload_n 0, 1), (43, .iconst (-1), 1), (44, .putfield 133, 3), (47, .aload_n 0, 1), (48, .iconst 0, 1), (49, .putfield 136, 3), (52, .aload_n 0, 1), (53, .iconst 1, 1), (54, .putfield 103, 3), (57, .aload_n 0, 1), (58, .bipush 6, 2), (60, .iload_n 2, 1), (61, .invokevirtual 139, 3), (64, .aload_n 0, 1), (65, .sipush 4096, 3), (68, .aload_n 1, 1), (69, .getfield 143, 3), (72, .iadd, 1), (73, .putfield 146, 3), (76, .aload_n 0, 1), (77, .invokevirtual 109, 3), (80, .return_, 1)]
def x_82 : zCx := (1, false, 0, zCode i_82, [])
def b_82 : zS := (sSeq (sSeq (sPf (eP (pL 3 0)) 1 3 3 (eP (pL 3 1)))
  (sSeq (sPf (eP (pL 3 0)) 1 15 1 (eP (pI 0)))
  (sSeq (sSe 1 (eP (p1 (oGf 1 14 3) (pL 3 0))) (eP (pI 0)) (eP (pI 0)))
  (sSeq (sPf (eP (pL 3 0)) 1 16 1 (eP (pI 0)))
  (sSeq (sPf (eP (pL 3 0)) 1 18 1 (eP (pI 0)))
  (sSeq (sPf (eP (pL 3 0)) 1 19 1 (eP (pI 0)))
  (sSeq (sPf (eP (pL 3 0)) 1 20 1 (eP (pI 0)))
  (sSeq (sPf (eP (pL 3 0)) 1 21 1 (eP (pI 0)))
  (sSeq (sPf (eP (pL 3 0)) 1 22 1 (eP (pI (-1))))
  (sSeq (sPf (eP (pL 3 0)) 1 23 1 (eP (pI 0)))
  (sSeq (sPf (eP (pL 3 0)) 1 17 1 (eP (pI 1)))
  (sSeq (sCall 85 [(eP (pL 3 0)), (eP (pI 6)), (eP (pL 1 2))])
  (sSeq (sPf (eP (pL 3 0)) 1 25 1 (eP (p2 oAdd (pI 4096) (p1 (oGf 5 17 1) (pL 3 1)))))
  (sCall 83 [(eP (pL 3 0))]))))))))))))))
  sRet0)
theorem k_82 : b_82.1.1 x_82 (0, true, []) = some ((81, false, []), [], []) := by decide +kernel
/-- LazyForms$Machine.isNew -/
def i_83 : List (Nat × Instr × Nat) := [(0, .aload_n 0, 1), (1, .iconst 0, 1), (2, .putfield 148, 3), (5, .aload_n 0, 1), (6, .lconst 0, 1), (7, .putfield 152, 3), (10, .aload_n 0, 1), (11, .lconst 0, 1), (12, .putfield 156, 3), (15, .return_, 1)]
def x_83 : zCx := (1, false, 0, zCode i_83, [])
def b_83 : zS := (sSeq (sSeq (sPf (eP (pL 3 0)) 1 26 4 (eP (pI 0)))
  (sSeq (sPf (eP (pL 3 0)) 1 27 2 (eP (pJ 0)))
  (sPf (eP (pL 3 0)) 1 28 2 (eP (pJ 0)))))
  sRet0)
theorem k_83 : b_83.1.1 x_83 (0, true, []) = some ((16, false, []), [], []) := by decide +kernel
/-- LazyForms$Machine.ends -/
def i_84 : List (Nat × Instr × Nat) := [(0, .aload_n 0, 1), (1, .iload_n 1, 1), (2, .putfield 103, 3), (5, .aload_n 0, 1), (6, .iconst 0, 1), (7, .putfield 106, 3), (10, .aload_n 0, 1), (11, .getfield 12, 3), (14, .athrow, 1)]
def x_84 : zCx := (1, false, 0, zCode i_84, [])
def b_84 : zS := (sSeq (sPf (eP (pL 3 0)) 1 17 1 (eP (pL 1 1)))
  (sSeq (sPf (eP (pL 3 0)) 1 15 1 (eP (pI 0)))
  (sThr (eP (p1 (oGf 1 1 3) (pL 3 0))))))
theorem k_84 : b_84.1.1 x_84 (0, true, []) = some ((15, false, []), [], []) := by decide +kernel
/-- LazyForms$Machine.push -/
def i_85 : List (Nat × Instr × Nat) := [(0, .aload_n 0, 1), (1, .getfield 106, 3), (4, .sipush 400, 3), (7, .if_icmp .ne 9, 3), (10, .aload_n 0, 1), (11, .bipush 6, 2), (13, .invokevirtual 159, 3), (16, .aload_n 0, 1), (17, .getfield 38, 3), (20, .aload_n 0, 1), (21, .getfield 106, 3), (24, .iload_n 1, 1), (25, .iastore, 1), (26, .aload_n 0, 1), (27, .getfield 41, 3), (30, .aload_n 0, 1), (31, .getfield 106, 3), (34, .iload_n 2, 1), (35, .iastore, 1), (36, .aload_n 0, 1), (37, .getfield 44, 3), (40, .aload_n 0, 1), (41, .getfield 106, 3), (44, .iconst 1, 1), (45, .iadd, 1), (46, .aload_n 0, 1), (47, .getfield 44, 3), (50, .aload_n 0, 1), (51, .getfield 106, 3), (54, .iaload, 1), (55, .iastore, 1), (56, .aload_n 0, 1), (57, .dup, 1), (58, .getfield 106, 3), (61, .iconst 1, 1), (62, .iadd, 1), (63, .putfield 106, 3), (66, .aload_n 0, 1), (67, .aload_n 0, 1), (68, .getfield 118, 3), (71, .aload_n 0, 1), (72, .getfield 106, 3), (75, .invokestatic 163, 3), (78, .putfield 118, 3), (81, .return_, 1)]
def x_85 : zCx := (1, false, 0, zCode i_85, [])
def b_85 : zS := (sSeq (sSeq (sIf (cP (kI .eq (p1 (oGf 1 15 1) (pL 3 0)) (pI 400)))
  (sCall 84 [(eP (pL 3 0)), (eP (pI 6))]))
  (sSeq (sSe 1 (eP (p1 (oGf 1 12 3) (pL 3 0))) (eP (p1 (oGf 1 15 1) (pL 3 0))) (eP (pL 1 1)))
  (sSeq (sSe 1 (eP (p1 (oGf 1 13 3) (pL 3 0))) (eP (p1 (oGf 1 15 1) (pL 3 0))) (eP (pL 1 2)))
  (sSeq (sSe 1 (eP (p1 (oGf 1 14 3) (pL 3 0))) (eP (p2 oAdd (p1 (oGf 1 15 1) (pL 3 0)) (pI 1))) (eP (p2 oIald (p1 (oGf 1 14 3) (pL 3 0)) (p1 (oGf 1 15 1) (pL 3 0)))))
  (sSeq (sPfo (eP (pL 3 0)) 1 15 1 oAdd (eP (pI 1)))
  (sPf (eP (pL 3 0)) 1 16 1 (eCall 235 [(eP (p1 (oGf 1 16 1) (pL 3 0))), (eP (p1 (oGf 1 15 1) (pL 3 0)))])))))))
  sRet0)
theorem k_85 : b_85.1.1 x_85 (0, true, []) = some ((82, false, []), [], []) := by decide +kernel
/-- LazyForms$Machine.hold -/
def i_86 : List (Nat × Instr × Nat) := [(0, .aload_n 0, 1), (1, .getfield 35, 3), (4, .aload_n 0, 1), (5, .getfield 44, 3), (8, .aload_n 0, 1), (9, .getfield 106, 3), (12, .iaload, 1), (13, .lload_n 1, 1), (14, .lastore, 1), (15, .aload_n 0, 1), (16, .getfield 44, 3), (19, .aload_n 0, 1), (20, .getfield 106, 3), (23, .dup2, 1), (24, .iaload, 1), (25, .iconst 1, 1), (26, .iadd, 1), (27, .iastore, 1), (28, .return_, 1)]
def x_86 : zCx := (1, false, 0, zCode i_86, [])
def b_86 : zS := (sSeq (sSeq (sSe 4 (eP (p1 (oGf 1 11 3) (pL 3 0))) (eP (p2 oIald (p1 (oGf 1 14 3) (pL 3 0)) (p1 (oGf 1 15 1) (pL 3 0)))) (eP (pL 2 1)))
  (sSeo (eP (p1 (oGf 1 14 3) (pL 3 0))) (eP (p1 (oGf 1 15 1) (pL 3 0))) oAdd (eP (pI 1))))
  sRet0)
theorem k_86 : b_86.1.1 x_86 (0, true, []) = some ((29, false, []), [], []) := by decide +kernel
/-- LazyForms$Machine.holdNames -/
def i_87 : List (Nat × Instr × Nat) := [(0, .iconst 0, 1), (1, .istore_n 2, 1), (2, .iload_n 2, 1), (3, .bipush 16, 2), (5, .if_icmp .ge 28, 3), (8, .iload_n 1, 1), (9, .iload_n 2, 1), (10, .ishr, 1), (11, .iconst 1, 1), (12, .iand, 1), (13, .iconst 1, 1), (14, .if_icmp .ne 13, 3), (17, .aload_n 0, 1), (18, .aload_n 0, 1), (19, .getfield 32, 3), (22, .iload_n 2, 1), (23, .laload, 1), (24, .invokevirtual 168, 3), (27, .iinc 2 1, 3), (30, .goto (-28), 3), (33, .return_, 1)]
def x_87 : zCx := (1, false, 0, zCode i_87, [])
def b_87 : zS := (sSeq (sBlk 2 (sSeq (sSt 1 2 (eP (pI 0)))
  (sWh (cP (kI .lt (pL 1 2) (pI 16)))
  (sIf (cP (kI .eq (p2 oAnd (p2 oShr (pL 1 1) (pL 1 2)) (pI 1)) (pI 1)))
  (sCall 86 [(eP (pL 3 0)), (eP (p2 oLald (p1 (oGf 1 10 3) (pL 3 0)) (pL 1 2)))]))
  (sInc 2 1))))
  sRet0)
theorem k_87 : b_87.1.1 x_87 (0, true, []) = some ((34, false, []), [], []) := by decide +kernel
/-- LazyForms$Machine.registers -/
def i_88 : List (Nat × Instr × Nat) := [(0, .iload_n 3, 1), (1, .istore 4, 2), (3, .iconst 0, 1), (4, .istore 5, 2), (6, .iload 5, 2), (8, .bipush 16, 2), (10, .if_icmp .ge 35, 3), (13, .iload_n 1, 1), (14, .iload 5, 2), (16, .ishr, 1), (17, .iconst 1, 1), (18, .iand, 1), (19, .ifCond .ne 6, 3), (22, .goto 17, 3), (25, .aload_n 0, 1), (26, .getfield 32, 3), (29, .iload 5, 2), (31, .aload_n 2, 1), (32, .iload 4, 2), (34, .laload, 1), (35, .lastore, 1), (36, .iinc 4 1, 3), (39, .iinc 5 1, 3), (42, .goto (-36), 3), (45, .return_, 1)]
def x_88 : zCx := (1, false, 0, zCode i_88, [])
def b_88 : zS := (sSeq (sSeq (sSt 1 4 (eP (pL 1 3)))
  (sBlk 5 (sSeq (sSt 1 5 (eP (pI 0)))
  (sWh (cP (kI .lt (pL 1 5) (pI 16)))
  (sSeq (sIf (cP (k0 .eq (p2 oAnd (p2 oShr (pL 1 1) (pL 1 5)) (pI 1))))
  (sCnt true))
  (sSeq (sSe 4 (eP (p1 (oGf 1 10 3) (pL 3 0))) (eP (pL 1 5)) (eP (p2 oLald (pL 3 2) (pL 1 4))))
  (sInc 4 1)))
  (sInc 5 1)))))
  sRet0)
theorem k_88 : b_88.1.1 x_88 (0, true, []) = some ((46, false, []), [], []) := by decide +kernel
/-- LazyForms$Machine.words -/
def i_89 : List (Nat × Instr × Nat) := [(0, .lload_n 0, 1), (1, .iconst 3, 1), (2, .lshr, 1), (3, .ldc2_w 172, 3), (6, .land, 1), (7, .l2i, 1), (8, .ireturn, 1)]
def x_89 : zCx := (1, false, 1, zCode i_89, [])
def b_89 : zS := (sRet 1 (eP (p1 oL2i (p2 oLand (p2 oLshr (pL 2 0) (pI 3)) (pJ 31)))))
theorem k_89 : b_89.1.1 x_89 (0, true, []) = some ((9, false, []), [], []) := by decide +kernel
/-- LazyForms$Machine.kind -/
def i_90 : List (Nat × Instr × Nat) := [(0, .lload_n 0, 1), (1, .ldc2_w 174, 3), (4, .land, 1), (5, .l2i, 1), (6, .ireturn, 1)]
def x_90 : zCx := (1, false, 1, zCode i_90, [])
def b_90 : zS := (sRet 1 (eP (p1 oL2i (p2 oLand (pL 2 0) (pJ 7)))))
theorem k_90 : b_90.1.1 x_90 (0, true, []) = some ((7, false, []), [], []) := by decide +kernel
/-- LazyForms$Machine.info -/
def i_91 : List (Nat × Instr × Nat) := [(0, .lload_n 0, 1), (1, .bipush 8, 2), (3, .lshr, 1), (4, .l2i, 1), (5, .ireturn, 1)]
def x_91 : zCx := (1, false, 1, zCode i_91, [])
def b_91 : zS := (sRet 1 (eP (p1 oL2i (p2 oLshr (pL 2 0) (pI 8)))))
theorem k_91 : b_91.1.1 x_91 (0, true, []) = some ((6, false, []), [], []) := by decide +kernel
/-- LazyForms$Machine.head -/
def i_92 : List (Nat × Instr × Nat) := [(0, .iload_n 2, 1), (1, .i2l, 1), (2, .bipush 8, 2), (4, .lshl, 1), (5, .iload_n 1, 1), (6, .i2l, 1), (7, .iconst 3, 1), (8, .lshl, 1), (9, .lor, 1), (10, .iload_n 0, 1), (11, .i2l, 1), (12, .lor, 1), (13, .lreturn, 1)]
def x_92 : zCx := (1, false, 2, zCode i_92, [])
def b_92 : zS := (sRet 2 (eP (p2 oLor (p2 oLor (p2 oLshl (p1 oI2l (pL 1 2)) (pI 8)) (p2 oLshl (p1 oI2l (pL 1 1)) (pI 3))) (p1 oI2l (pL 1 0)))))
theorem k_92 : b_92.1.1 x_92 (0, true, []) = some ((14, false, []), [], []) := by decide +kernel
/-- LazyForms$Machine.cell -/
def i_93 : List (Nat × Instr × Nat) := [(0, .aload_n 0, 1), (1, .getfield 97, 3), (4, .istore 4, 2), (6, .aload_n 0, 1), (7, .getfield 18, 3), (10, .iload 4, 2), (12, .iload_n 1, 1), (13, .iload_n 2, 1), (14, .iload_n 3, 1), (15, .invokestatic 176, 3), (18, .lastore, 1), (19, .aload_n 0, 1), (20, .dup, 1), (21, .getfield 97, 3), (24, .iconst 1, 1), (25, .iload_n 2, 1), (26, .iadd, 1), (27, .iadd, 1), (28, .putfield 97, 3), (31, .aload_n 0, 1), (32, .dup, 1), (33, .getfield 100, 3), (36, .iconst 1, 1), (37, .iadd, 1), (38, .putfield 100, 3), (41, .iload 4, 2), (43, .ireturn, 1)]
def x_93 : zCx := (1, false, 1, zCode i_93, [])
def b_93 : zS := (sSeq (sSt 1 4 (eP (p1 (oGf 1 6 1) (pL 3 0))))
  (sSeq (sSe 4 (eP (p1 (oGf 1 4 3) (pL 3 0))) (eP (pL 1 4)) (eCall 92 [(eP (pL 1 1)), (eP (pL 1 2)), (eP (pL 1 3))]))
  (sSeq (sPfo (eP (pL 3 0)) 1 6 1 oAdd (eP (p2 oAdd (pI 1) (pL 1 2))))
  (sSeq (sPfo (eP (pL 3 0)) 1 7 1 oAdd (eP (pI 1)))
  (sRet 1 (eP (pL 1 4)))))))
theorem k_93 : b_93.1.1 x_93 (0, true, []) = some ((44, false, []), [], []) := by decide +kernel
/-- LazyForms$Machine.real -/
def i_94 : List (Nat × Instr × Nat) := [(0, .lload_n 1, 1), (1, .lstore_n 3, 1), (2, .lload_n 3, 1), (3, .ldc2_w 174, 3), (6, .land, 1), (7, .ldc2_w 180, 3), (10, .lcmp, 1), (11, .ifCond .ne 34, 3), (14, .aload_n 0, 1), (15, .getfield 18, 3), (18, .lload_n 3, 1), (19, .iconst 3, 1), (20, .lshr, 1), (21, .l2i, 1), (22, .laload, 1), (23, .invokestatic 182, 3), (26, .iconst 5, 1), (27, .if_icmp .ne 18, 3), (30, .aload_n 0, 1), (31, .getfield 18, 3), (34, .lload_n 3, 1), (35, .iconst 3, 1), (36, .lshr, 1), (37, .l2i, 1), (38, .iconst 1, 1), (39, .iadd, 1), (40, .laload, 1), (41, .lstore_n 3, 1), (42, .goto (-40), 3), (45, .lload_n 3, 1), (46, .ldc2_w 174, 3), (49, .land, 1), (50, .ldc2_w 186, 3), (53, .lcmp, 1), (54, .ifCond .ne 29, 3), (57, .aload_n 0, 1), (58, .getfield 25, 3), (61, .lload_n 3, 1), (62, .iconst 3, 1), (63, .lshr, 1), (64, .l2i, 1), (65, .iaload, 1), (66, .iconst 3, 1), (67, .if_icmp .ne 16, 3), (70, .aload_n 0, 1), (71, .getfield 29, 3), (74, .lload_n 3, 1), (75, .iconst 3, 1), (76, .lshr, 1), (77, .l2i, 1), (78, .laload, 1), (79, .lstore_n 3, 1), (80, .goto (-78), 3), (83, .lload_n 3, 1), (84, .lreturn, 1)]
def x_94 : zCx := (1, false, 2, zCode i_94, [])
def b_94 : zS := (sSeq (sSt 2 3 (eP (pL 2 1)))
  (sLoop (sIfE (cAnd (cP (kL .eq (p2 oLand (pL 2 3) (pJ 7)) (pJ 4))) (cI .eq (eCall 90 [(eP (p2 oLald (p1 (oGf 1 4 3) (pL 3 0)) (p1 oL2i (p2 oLshr (pL 2 3) (pI 3)))))]) (eP (pI 5))))
  (sSt 2 3 (eP (p2 oLald (p1 (oGf 1 4 3) (pL 3 0)) (p2 oAdd (p1 oL2i (p2 oLshr (pL 2 3) (pI 3))) (pI 1)))))
  (sIfE (cP (kAnd (kL .eq (p2 oLand (pL 2 3) (pJ 7)) (pJ 3)) (kI .eq (p2 oIald (p1 (oGf 1 8 3) (pL 3 0)) (p1 oL2i (p2 oLshr (pL 2 3) (pI 3)))) (pI 3))))
  (sSt 2 3 (eP (p2 oLald (p1 (oGf 1 9 3) (pL 3 0)) (p1 oL2i (p2 oLshr (pL 2 3) (pI 3))))))
  (sRet 2 (eP (pL 2 3)))))))
theorem k_94 : b_94.1.1 x_94 (0, true, []) = some ((85, false, []), [], []) := by decide +kernel
/-- LazyForms$Machine.moved -/
def i_95 : List (Nat × Instr × Nat) := [(0, .lload_n 1, 1), (1, .lstore_n 3, 1), (2, .lload_n 3, 1), (3, .ldc2_w 174, 3), (6, .land, 1), (7, .ldc2_w 180, 3), (10, .lcmp, 1), (11, .ifCond .ne 34, 3), (14, .aload_n 0, 1), (15, .getfield 18, 3), (18, .lload_n 3, 1), (19, .iconst 3, 1), (20, .lshr, 1), (21, .l2i, 1), (22, .laload, 1), (23, .invokestatic 182, 3), (26, .iconst 5, 1), (27, .if_icmp .ne 18, 3), (30, .aload_n 0, 1), (31, .getfield 18, 3), (34, .lload_n 3, 1), (35, .iconst 3, 1), (36, .lshr, 1), (37, .l2i, 1), (38, .iconst 1, 1), (39, .iadd, 1), (40, .laload, 1), (41, .lstore_n 3, 1), (42, .goto (-40), 3), (45, .lload_n 3, 1), (46, .ldc2_w 174, 3), (49, .land, 1), (50, .ldc2_w 180, 3), (53, .lcmp, 1), (54, .ifCond .eq 5, 3), (57, .lload_n 3, 1), (58, .lreturn, 1), (59, .lload_n 3, 1), (60, .iconst 3, 1), (61, .lshr, 1), (62, .l2i, 1), (63, .istore 5, 2), (65, .aload_n 0, 1), (66, .getfield 18, 3), (69, .iload 5, 2), (71, .laload, 1), (72, .invokestatic 182, 3), (75, .bipush 6, 2), (77, .if_icmp .ne 17, 3), (80, .iconst 4, 1), (81, .aload_n 0, 1), (82, .getfield 18, 3), (85, .iload 5, 2), (87, .iconst 1, 1), (88, .iadd, 1), (89, .laload, 1), (90, .invokestatic 188, 3), (93, .lreturn, 1), (94, .aload_n 0, 1), (95, .getfield 18, 3), (98, .iload 5, 2), (100, .laload, 1), (101, .invokestatic 182, 3), (104, .iconst 1, 1), (105, .if_icmp .ne 7, 3), (108, .iconst 1, 1), (109, .goto 4, 3), (112, .iconst 0, 1), (113, .istore 6, 2), (115, .iload 6, 2), (117, .ifCond .eq 7, 3), (120, .iconst 1, 1), (121, .goto 13, 3), (124, .aload_n 0, 1), (125, .getfield 18, 3), (128, .iload 5, 2), (130, .laload, 1), (131, .invokestatic 192, 3), (134, .istore 7, 2), (136, .aload_n 0, 1), (137, .getfield 97, 3), (140, .istore 8, 2), (142, .aload_n 0, 1), (143, .getfield 22, 3), (146, .iload 8, 2), (148, .aload_n 0, 1), (149, .getfield 18, 3), (152, .iload 5, 2), (154, .laload, 1), (155, .invokestatic 182, 3), (158, .iload 7, 2), (160, .aload_n 0, 1), (161, .getfield 18, 3), (164, .iload 5, 2), (166, .laload, 1), (167, .invokestatic 195, 3), (170, .invokestatic 176, 3), (173, .lastore, 1), (174, .iconst 1, 1), (175, .istore 9, 2), (177, .iload 9, 2), (179, .iload 7, 2), (181, .if_icmp .gt 38, 3), (184, .aload_n 0, 1), (185, .getfield 22, 3), (188, .iload 8, 2), (190, .iload 9, 2), (192, .iadd, 1), (193, .iload 6, 2), (195, .ifCond .eq 7, 3), (198, .lconst 0, 1), (199, .goto 13, 3), (202, .aload_n 0, 1), (203, .getfield 18, 3), (206, .iload 5, 2), (208, .iload 9, 2), (210, .iadd, 1), (211, .laload, 1), (212, .lastore, 1), (213, .iinc 9 1, 3), (216, .goto (-39), 3), (219, .aload_n 0, 1), (220, .dup, 1), (221, .getfield 97, 3), (224, .iconst 1, 1), (225, .iload 7, 2), (227, .iadd, 1), (228, .iadd, 1), (229, .putfield 97, 3), (232, .aload_n 0, 1), (233, .dup, 1), (234, .getfield 198, 3), (237, .iconst 1, 1), (238, .iadd, 1), (239, .putfield 198, 3), (242, .aload_n 0, 1), (243, .getfield 18, 3), (246, .iload 5, 2), (248, .ldc2_w 201, 3), (251, .lastore, 1), (252, .aload_n 0, 1), (253, .getfield 18, 3), (256, .iload 5, 2), (258, .iconst 1, 1), (259, .iadd, 1), (260, .iload 8, 2), (262, .i2l, 1), (263, .lastore, 1), (264, .iconst 4, 1), (265, .iload 8, 2), (267, .i2l, 1), (268, .invokestatic 188, 3), (271, .lreturn, 1)]
def x_95 : zCx := (1, false, 2, zCode i_95, [])
def b_95 : zS := (sSeq (sSt 2 3 (eP (pL 2 1)))
  (sSeq (sWh (cAnd (cP (kL .eq (p2 oLand (pL 2 3) (pJ 7)) (pJ 4))) (cI .eq (eCall 90 [(eP (p2 oLald (p1 (oGf 1 4 3) (pL 3 0)) (p1 oL2i (p2 oLshr (pL 2 3) (pI 3)))))]) (eP (pI 5))))
  (sSt 2 3 (eP (p2 oLald (p1 (oGf 1 4 3) (pL 3 0)) (p2 oAdd (p1 oL2i (p2 oLshr (pL 2 3) (pI 3))) (pI 1)))))
  sSkip)
  (sSeq (sIf (cP (kL .ne (p2 oLand (pL 2 3) (pJ 7)) (pJ 4)))
  (sRet 2 (eP (pL 2 3))))
  (sSeq (sSt 1 5 (eP (p1 oL2i (p2 oLshr (pL 2 3) (pI 3)))))
  (sSeq (sIf (cI .eq (eCall 90 [(eP (p2 oLald (p1 (oGf 1 4 3) (pL 3 0)) (pL 1 5)))]) (eP (pI 6)))
  (sRet 2 (eCall 0 [(eP (pI 4)), (eP (p2 oLald (p1 (oGf 1 4 3) (pL 3 0)) (p2 oAdd (pL 1 5) (pI 1))))])))
  (sSeq (sSt 1 6 (eB (cI .eq (eCall 90 [(eP (p2 oLald (p1 (oGf 1 4 3) (pL 3 0)) (pL 1 5)))]) (eP (pI 1)))))
  (sSeq (sSt 1 7 (eIte (cP (k0 .ne (pL 1 6))) (eP (pI 1)) (eCall 89 [(eP (p2 oLald (p1 (oGf 1 4 3) (pL 3 0)) (pL 1 5)))])))
  (sSeq (sSt 1 8 (eP (p1 (oGf 1 6 1) (pL 3 0))))
  (sSeq (sSe 4 (eP (p1 (oGf 1 5 3) (pL 3 0))) (eP (pL 1 8)) (eCall 92 [(eCall 90 [(eP (p2 oLald (p1 (oGf 1 4 3) (pL 3 0)) (pL 1 5)))]), (eP (pL 1 7)), (eCall 91 [(eP (p2 oLald (p1 (oGf 1 4 3) (pL 3 0)) (pL 1 5)))])]))
  (sSeq (sBlk 9 (sSeq (sSt 1 9 (eP (pI 1)))
  (sWh (cP (kI .le (pL 1 9) (pL 1 7)))
  (sSe 4 (eP (p1 (oGf 1 5 3) (pL 3 0))) (eP (p2 oAdd (pL 1 8) (pL 1 9))) (eP (pIte (k0 .ne (pL 1 6)) (pJ 0) (p2 oLald (p1 (oGf 1 4 3) (pL 3 0)) (p2 oAdd (pL 1 5) (pL 1 9))))))
  (sInc 9 1))))
  (sSeq (sPfo (eP (pL 3 0)) 1 6 1 oAdd (eP (p2 oAdd (pI 1) (pL 1 7))))
  (sSeq (sPfo (eP (pL 3 0)) 1 29 1 oAdd (eP (pI 1)))
  (sSeq (sSe 4 (eP (p1 (oGf 1 4 3) (pL 3 0))) (eP (pL 1 5)) (eP (pJ 6)))
  (sSeq (sSe 4 (eP (p1 (oGf 1 4 3) (pL 3 0))) (eP (p2 oAdd (pL 1 5) (pI 1))) (eP (p1 oI2l (pL 1 8))))
  (sRet 2 (eCall 0 [(eP (pI 4)), (eP (p1 oI2l (pL 1 8)))]))))))))))))))))
theorem k_95 : b_95.1.1 x_95 (0, true, []) = some ((272, false, []), [], []) := by decide +kernel
/-- LazyForms$Machine.collect -/
def i_96 : List (Nat × Instr × Nat) := [(0, .aload_n 0, 1), (1, .iconst 0, 1), (2, .putfield 97, 3), (5, .aload_n 0, 1), (6, .iconst 0, 1), (7, .putfield 198, 3), (10, .iconst 0, 1), (11, .istore_n 2, 1), (12, .iload_n 2, 1), (13, .bipush 16, 2), (15, .if_icmp .ge 34, 3), (18, .iload_n 1, 1), (19, .iload_n 2, 1), (20, .ishr, 1), (21, .iconst 1, 1), (22, .iand, 1), (23, .iconst 1, 1), (24, .if_icmp .ne 19, 3), (27, .aload_n 0, 1), (28, .getfield 32, 3), (31, .iload_n 2, 1), (32, .aload_n 0, 1), (33, .aload_n 0, 1), (34, .getfield 32, 3), (37, .iload_n 2, 1), (38, .laload, 1), (39, .invokevirtual 203, 3), (42, .lastore, 1), (43, .iinc 2 1, 3), (46, .goto (-34), 3), (49, .aload_n 0, 1), (50, .aload_n 0, 1), (51, .aload_n 0, 1), (52, .getfield 152, 3), (55, .invokevirtual 203, 3), (58, .putfield 152, 3), (61, .aload_n 0, 1), (62, .aload_n 0, 1), (63, .aload_n 0, 1), (64, .getfield 156, 3), (67, .invokevirtual 203, 3), (70, .putfield 156, 3), (73, .iconst 0, 1), (74, .istore_n 2, 1), (75, .iload_n 2, 1), (76, .aload_n 0, 1), (77, .getfield 44, 3), (80, .aload_n 0, 1), (81, .getfield 106, 3), (84, .iaload, 1), (85, .if_icmp .ge 25, 3), (88, .aload_n 0, 1), (89, .getfield 35, 3), (92, .iload_n 2, 1), (93, .aload_n 0, 1), (94, .aload_n 0, 1), (95, .getfield 35, 3), (98, .iload_n 2, 1), (99, .laload, 1), (100, .invokevirtual 203, 3), (103, .lastore, 1), (104, .iinc 2 1, 3), (107, .goto (-32), 3), (110, .iconst 0, 1), (111, .istore_n 2, 1), (112, .iload_n 2, 1), (113, .aload_n 0, 1), (114, .getfield 62, 3), (117, .getfield 112, 3), (120, .if_icmp .ge 35, 3), (123, .aload_n 0, 1), (124, .getfield 25, 3), (127, .iload_n 2, 1), (128, .iaload, 1), (129, .iconst 3, 1), (130, .if_icmp .ne 19, 3), (133, .aload_n 0, 1), (134, .getfield 29, 3), (137, .iload_n 2, 1), (138, .aload_n 0, 1), (139, .aload_n 0, 1), (140, .getfield 29, 3), (143, .iload_n 2, 1), (144, .laload, 1), (145, .invokevirtual 203, 3), (148, .lastore, 1), (149, .iinc 2 1, 3), (152, .goto (-40), 3), (155, .iconst 0, 1), (156, .istore_n 2, 1), (157, .iload_n 2, 1), (158, .aload_n 0, 1), (159, .getfield 97, 3), (162, .if_icmp .ge 84, 3), (165, .aload_n 0, 1), (166, .getfield 22, 3), (169, .iload_n 2, 1), (170, .laload, 1), (171, .invokestatic 192, 3), (174, .istore_n 3, 1), (175, .aload_n 0, 1), (176, .getfield 22, 3), (179, .iload_n 2, 1), (180, .laload, 1), (181, .invokestatic 182, 3), (184, .iconst 1, 1), (185, .if_icmp .ne 7, 3), (188, .iconst 1, 1), (189, .goto 4, 3), (192, .iconst 0, 1), (193, .istore 4, 2), (195, .iconst 1, 1), (196, .istore 5, 2), (198, .iload 5, 2), (200, .iload_n 3, 1), (201, .if_icmp .gt 36, 3), (204, .iload 4, 2), (206, .ifCond .ne 31, 3), (209, .aload_n 0, 1), (210, .getfield 22, 3), (213, .iload_n 2, 1), (214, .iload 5, 2), (216, .iadd, 1), (217, .aload_n 0, 1), (218, .aload_n 0, 1), (219, .getfield 22, 3), (222, .iload_n 2, 1), (223, .iload 5, 2), (225, .iadd, 1), (226, .laload, 1), (227, .invokevirtual 203, 3), (230, .lastore, 1), (231, .iinc 5 1, 3), (234, .goto (-36), 3), (237, .iload_n 2, 1), (238, .iconst 1, 1), (239, .iload_n 3, 1), (240, .iadd, 1), (241, .iadd, 1), (242, .istore_n 2, 1), (243, .goto (-86), 3), (246, .aload_n 0, 1), (247, .getfield 18, 3), (250, .astore_n 3, 1), (251, .aload_n 0, 1), (252, .aload_n 0, 1), (253, .getfield 22, 3), (256, .putfield 18, 3), (259, .aload_n 0, 1), (260, .aload_n 3, 1), (261, .putfield 22, 3), (264, .aload_n 0, 1), (265, .aload_n 0, 1), (266, .getfield 198, 3), (269, .putfield 100, 3), (272, .return_, 1)]
def x_96 : zCx := (1, false, 0, zCode i_96, [])
def b_96 : zS := (sSeq (sSeq (sPf (eP (pL 3 0)) 1 6 1 (eP (pI 0)))
  (sSeq (sPf (eP (pL 3 0)) 1 29 1 (eP (pI 0)))
  (sSeq (sBlk 2 (sSeq (sSt 1 2 (eP (pI 0)))
  (sWh (cP (kI .lt (pL 1 2) (pI 16)))
  (sIf (cP (kI .eq (p2 oAnd (p2 oShr (pL 1 1) (pL 1 2)) (pI 1)) (pI 1)))
  (sSe 4 (eP (p1 (oGf 1 10 3) (pL 3 0))) (eP (pL 1 2)) (eCall 95 [(eP (pL 3 0)), (eP (p2 oLald (p1 (oGf 1 10 3) (pL 3 0)) (pL 1 2)))])))
  (sInc 2 1))))
  (sSeq (sPf (eP (pL 3 0)) 1 27 2 (eCall 95 [(eP (pL 3 0)), (eP (p1 (oGf 1 27 2) (pL 3 0)))]))
  (sSeq (sPf (eP (pL 3 0)) 1 28 2 (eCall 95 [(eP (pL 3 0)), (eP (p1 (oGf 1 28 2) (pL 3 0)))]))
  (sSeq (sBlk 2 (sSeq (sSt 1 2 (eP (pI 0)))
  (sWh (cP (kI .lt (pL 1 2) (p2 oIald (p1 (oGf 1 14 3) (pL 3 0)) (p1 (oGf 1 15 1) (pL 3 0)))))
  (sSe 4 (eP (p1 (oGf 1 11 3) (pL 3 0))) (eP (pL 1 2)) (eCall 95 [(eP (pL 3 0)), (eP (p2 oLald (p1 (oGf 1 11 3) (pL 3 0)) (pL 1 2)))]))
  (sInc 2 1))))
  (sSeq (sBlk 2 (sSeq (sSt 1 2 (eP (pI 0)))
  (sWh (cP (kI .lt (pL 1 2) (p1 (oGf 5 16 1) (p1 (oGf 1 2 3) (pL 3 0)))))
  (sIf (cP (kI .eq (p2 oIald (p1 (oGf 1 8 3) (pL 3 0)) (pL 1 2)) (pI 3)))
  (sSe 4 (eP (p1 (oGf 1 9 3) (pL 3 0))) (eP (pL 1 2)) (eCall 95 [(eP (pL 3 0)), (eP (p2 oLald (p1 (oGf 1 9 3) (pL 3 0)) (pL 1 2)))])))
  (sInc 2 1))))
  (sSeq (sSt 1 2 (eP (pI 0)))
  (sSeq (sWh (cP (kI .lt (pL 1 2) (p1 (oGf 1 6 1) (pL 3 0))))
  (sBlk 3 (sSeq (sSt 1 3 (eCall 89 [(eP (p2 oLald (p1 (oGf 1 5 3) (pL 3 0)) (pL 1 2)))]))
  (sSeq (sSt 1 4 (eB (cI .eq (eCall 90 [(eP (p2 oLald (p1 (oGf 1 5 3) (pL 3 0)) (pL 1 2)))]) (eP (pI 1)))))
  (sSeq (sBlk 5 (sSeq (sSt 1 5 (eP (pI 1)))
  (sWh (cP (kAnd (kI .le (pL 1 5) (pL 1 3)) (kNot (k0 .ne (pL 1 4)))))
  (sSe 4 (eP (p1 (oGf 1 5 3) (pL 3 0))) (eP (p2 oAdd (pL 1 2) (pL 1 5))) (eCall 95 [(eP (pL 3 0)), (eP (p2 oLald (p1 (oGf 1 5 3) (pL 3 0)) (p2 oAdd (pL 1 2) (pL 1 5))))]))
  (sInc 5 1))))
  (sSt 1 2 (eP (p2 oAdd (pL 1 2) (p2 oAdd (pI 1) (pL 1 3)))))))))
  sSkip)
  (sSeq (sSt 3 3 (eP (p1 (oGf 1 4 3) (pL 3 0))))
  (sSeq (sPf (eP (pL 3 0)) 1 4 3 (eP (p1 (oGf 1 5 3) (pL 3 0))))
  (sSeq (sPf (eP (pL 3 0)) 1 5 3 (eP (pL 3 3)))
  (sPf (eP (pL 3 0)) 1 7 1 (eP (p1 (oGf 1 29 1) (pL 3 0))))))))))))))))
  sRet0)
theorem k_96 : b_96.1.1 x_96 (0, true, []) = some ((273, false, []), [], []) := by decide +kernel
/-- LazyForms$Machine.roomFor -/
def i_97 : List (Nat × Instr × Nat) := [(0, .iload_n 1, 1), (1, .ifCond .ne 4, 3), (4, .return_, 1), (5, .aload_n 0, 1), (6, .getfield 100, 3), (9, .iload_n 1, 1), (10, .iadd, 1), (11, .aload_n 0, 1), (12, .getfield 58, 3), (15, .if_icmp .le 26, 3), (18, .aload_n 0, 1), (19, .iload_n 2, 1), (20, .invokevirtual 207, 3), (23, .aload_n 0, 1), (24, .getfield 100, 3), (27, .iload_n 1, 1), (28, .iadd, 1), (29, .aload_n 0, 1), (30, .getfield 58, 3), (33, .if_icmp .le 8, 3), (36, .aload_n 0, 1), (37, .iconst 5, 1), (38, .invokevirtual 159, 3), (41, .aload_n 0, 1), (42, .dup, 1), (43, .getfield 124, 3), (46, .iload_n 1, 1), (47, .iadd, 1), (48, .putfield 124, 3), (51, .return_, 1)]
def x_97 : zCx := (1, false, 0, zCode i_97, [])
def b_97 : zS := (sSeq (sSeq (sIf (cP (k0 .eq (pL 1 1)))
  sRet0)
  (sSeq (sIf (cP (kI .gt (p2 oAdd (p1 (oGf 1 7 1) (pL 3 0)) (pL 1 1)) (p1 (oGf 1 0 1) (pL 3 0))))
  (sSeq (sCall 96 [(eP (pL 3 0)), (eP (pL 1 2))])
  (sIf (cP (kI .gt (p2 oAdd (p1 (oGf 1 7 1) (pL 3 0)) (pL 1 1)) (p1 (oGf 1 0 1) (pL 3 0))))
  (sCall 84 [(eP (pL 3 0)), (eP (pI 5))]))))
  (sPfo (eP (pL 3 0)) 1 19 1 oAdd (eP (pL 1 1)))))
  sRet0)
theorem k_97 : b_97.1.1 x_97 (0, true, []) = some ((52, false, []), [], []) := by decide +kernel
/-- LazyForms$Machine.reached -/
def i_98 : List (Nat × Instr × Nat) := [(0, .aload_n 0, 1), (1, .getfield 62, 3), (4, .ifnonnull 5, 3), (7, .iconst 0, 1), (8, .ireturn, 1), (9, .aload_n 0, 1), (10, .getfield 103, 3), (13, .iconst 1, 1), (14, .if_icmp .ne 7, 3), (17, .iconst 1, 1), (18, .goto 4, 3), (21, .iconst 0, 1), (22, .istore_n 1, 1), (23, .iload_n 1, 1), (24, .ifCond .ne 8, 3), (27, .aload_n 0, 1), (28, .iconst 0, 1), (29, .putfield 106, 3), (32, .iload_n 1, 1), (33, .ifCond .eq 10, 3), (36, .aload_n 0, 1), (37, .getfield 148, 3), (40, .ifCond .ne 8, 3), (43, .aload_n 0, 1), (44, .lconst 0, 1), (45, .putfield 152, 3), (48, .aload_n 0, 1), (49, .lconst 0, 1), (50, .putfield 156, 3), (53, .aload_n 0, 1), (54, .iload_n 1, 1), (55, .ifCond .eq 21, 3), (58, .aload_n 0, 1), (59, .getfield 148, 3), (62, .ifCond .ne 14, 3), (65, .aload_n 0, 1), (66, .aload_n 0, 1), (67, .getfield 146, 3), (70, .invokevirtual 210, 3), (73, .goto 4, 3), (76, .iconst 0, 1), (77, .invokevirtual 207, 3), (80, .aload_n 0, 1), (81, .getfield 100, 3), (84, .ireturn, 1)]
def x_98 : zCx := (1, false, 1, zCode i_98, [])
def b_98 : zS := (sSeq (sIf (cP (kN true (p1 (oGf 1 2 3) (pL 3 0))))
  (sRet 1 (eP (pI 0))))
  (sSeq (sSt 1 1 (eP (pB (kI .eq (p1 (oGf 1 17 1) (pL 3 0)) (pI 1)))))
  (sSeq (sIf (cP (kNot (k0 .ne (pL 1 1))))
  (sPf (eP (pL 3 0)) 1 15 1 (eP (pI 0))))
  (sSeq (sIf (cP (kOr (kNot (k0 .ne (pL 1 1))) (kNot (k0 .ne (p1 (oGf 1 26 4) (pL 3 0))))))
  (sPf (eP (pL 3 0)) 1 27 2 (eP (pJ 0))))
  (sSeq (sPf (eP (pL 3 0)) 1 28 2 (eP (pJ 0)))
  (sSeq (sCall 96 [(eP (pL 3 0)), (eIte (cP (kAnd (k0 .ne (pL 1 1)) (kNot (k0 .ne (p1 (oGf 1 26 4) (pL 3 0)))))) (eCall 78 [(eP (pL 3 0)), (eP (p1 (oGf 1 25 1) (pL 3 0)))]) (eP (pI 0)))])
  (sRet 1 (eP (p1 (oGf 1 7 1) (pL 3 0))))))))))
theorem k_98 : b_98.1.1 x_98 (0, true, []) = some ((85, false, []), [], []) := by decide +kernel
/-- LazyForms$Machine.cells -/
def i_99 : List (Nat × Instr × Nat) := [(0, .aload_n 0, 1), (1, .iload_n 1, 1), (2, .invokevirtual 213, 3), (5, .lookupswitch 54 #[(1, 27), (2, 29)], 27), (32, .iconst 0, 1), (33, .ireturn, 1), (34, .aload_n 0, 1), (35, .iload_n 1, 1), (36, .invokevirtual 215, 3), (39, .ifCond .ne 7, 3), (42, .iconst 0, 1), (43, .goto 15, 3), (46, .iconst 1, 1), (47, .aload_n 0, 1), (48, .aload_n 0, 1), (49, .iload_n 1, 1), (50, .invokevirtual 217, 3), (53, .iload_n 1, 1), (54, .invokevirtual 219, 3), (57, .iadd, 1), (58, .ireturn, 1), (59, .iconst 1, 1), (60, .ireturn, 1)]
def x_99 : zCx := (1, false, 1, zCode i_99, [])
def b_99 : zS := (sSw (eCall 74 [(eP (pL 3 0)), (eP (pL 1 1))]) [(1, 0), (2, 1)] 2 [(sRet 1 (eP (pI 0))),
  (sRet 1 (eIte (c0 .eq (eCall 77 [(eP (pL 3 0)), (eP (pL 1 1))])) (eP (pI 0)) (e2 oAdd (eP (pI 1)) (eCall 100 [(eP (pL 3 0)), (eCall 76 [(eP (pL 3 0)), (eP (pL 1 1))]), (eP (pL 1 1))])))),
  (sRet 1 (eP (pI 1)))])
theorem k_99 : b_99.1.1 x_99 (0, true, []) = some ((61, false, []), [], []) := by decide +kernel
/-- LazyForms$Machine.cellsOf -/
def i_100 : List (Nat × Instr × Nat) := [(0, .iconst 0, 1), (1, .istore_n 3, 1), (2, .iload_n 2, 1), (3, .iload_n 1, 1), (4, .invokestatic 93, 3), (7, .istore 4, 2), (9, .iload 4, 2), (11, .iconst (-1), 1), (12, .if_icmp .eq 48, 3), (15, .iload_n 2, 1), (16, .aload_n 0, 1), (17, .iload 4, 2), (19, .invokevirtual 222, 3), (22, .invokestatic 93, 3), (25, .istore 5, 2), (27, .iload_n 3, 1), (28, .aload_n 0, 1), (29, .iload 5, 2), (31, .invokevirtual 213, 3), (34, .ifCond .ne 7, 3), (37, .iconst 0, 1), (38, .goto 9, 3), (41, .aload_n 0, 1), (42, .iload 5, 2), (44, .invokevirtual 224, 3), (47, .iadd, 1), (48, .istore_n 3, 1), (49, .aload_n 0, 1), (50, .iload 4, 2), (52, .invokevirtual 227, 3), (55, .istore 4, 2), (57, .goto (-48), 3), (60, .iload_n 3, 1), (61, .ireturn, 1)]
def x_100 : zCx := (1, false, 1, zCode i_100, [])
def b_100 : zS := (sSeq (sSt 1 3 (eP (pI 0)))
  (sSeq (sBlk 4 (sSeq (sSt 1 4 (eCall 79 [(eP (pL 1 2)), (eP (pL 1 1))]))
  (sWh (cP (kI .ne (pL 1 4) (pI (-1))))
  (sBlk 5 (sSeq (sSt 1 5 (eCall 79 [(eP (pL 1 2)), (eCall 75 [(eP (pL 3 0)), (eP (pL 1 4))])]))
  (sSt 1 3 (e2 oAdd (eP (pL 1 3)) (eIte (c0 .eq (eCall 74 [(eP (pL 3 0)), (eP (pL 1 5))])) (eP (pI 0)) (eCall 99 [(eP (pL 3 0)), (eP (pL 1 5))]))))))
  (sSt 1 4 (eCall 80 [(eP (pL 3 0)), (eP (pL 1 4))])))))
  (sRet 1 (eP (pL 1 3)))))
theorem k_100 : b_100.1.1 x_100 (0, true, []) = some ((62, false, []), [], []) := by decide +kernel
/-- LazyForms$Machine.take -/
def i_101 : List (Nat × Instr × Nat) := [(0, .aload_n 0, 1), (1, .iload_n 1, 1), (2, .invokevirtual 213, 3), (5, .ifCond .ne 11, 3), (8, .aload_n 0, 1), (9, .iload_n 1, 1), (10, .invokevirtual 230, 3), (13, .goto 8, 3), (16, .aload_n 0, 1), (17, .iload_n 1, 1), (18, .invokevirtual 234, 3), (21, .lreturn, 1)]
def x_101 : zCx := (1, false, 2, zCode i_101, [])
def b_101 : zS := (sRet 2 (eIte (c0 .eq (eCall 74 [(eP (pL 3 0)), (eP (pL 1 1))])) (eCall 102 [(eP (pL 3 0)), (eP (pL 1 1))]) (eCall 105 [(eP (pL 3 0)), (eP (pL 1 1))])))
theorem k_101 : b_101.1.1 x_101 (0, true, []) = some ((22, false, []), [], []) := by decide +kernel
/-- LazyForms$Machine.name -/
def i_102 : List (Nat × Instr × Nat) := [(0, .aload_n 0, 1), (1, .iload_n 1, 1), (2, .invokevirtual 222, 3), (5, .istore_n 2, 1), (6, .iload_n 2, 1), (7, .ifCond .lt 14, 3), (10, .aload_n 0, 1), (11, .aload_n 0, 1), (12, .getfield 32, 3), (15, .iload_n 2, 1), (16, .laload, 1), (17, .invokevirtual 237, 3), (20, .lreturn, 1), (21, .aload_n 0, 1), (22, .getfield 25, 3), (25, .iconst (-1), 1), (26, .iload_n 2, 1), (27, .isub, 1), (28, .iaload, 1), (29, .ifCond .ne 14, 3), (32, .iconst 2, 1), (33, .iconst (-1), 1), (34, .iload_n 2, 1), (35, .isub, 1), (36, .i2l, 1), (37, .invokestatic 188, 3), (40, .goto 15, 3), (43, .aload_n 0, 1), (44, .iconst 3, 1), (45, .iconst (-1), 1), (46, .iload_n 2, 1), (47, .isub, 1), (48, .i2l, 1), (49, .invokestatic 188, 3), (52, .invokevirtual 237, 3), (55, .lreturn, 1)]
def x_102 : zCx := (1, false, 2, zCode i_102, [])
def b_102 : zS := (sSeq (sSt 1 2 (eCall 75 [(eP (pL 3 0)), (eP (pL 1 1))]))
  (sSeq (sIf (cP (k0 .ge (pL 1 2)))
  (sRet 2 (eCall 94 [(eP (pL 3 0)), (eP (p2 oLald (p1 (oGf 1 10 3) (pL 3 0)) (pL 1 2)))])))
  (sRet 2 (eIte (cP (k0 .eq (p2 oIald (p1 (oGf 1 8 3) (pL 3 0)) (p2 oSub (pI (-1)) (pL 1 2))))) (eCall 0 [(eP (pI 2)), (eP (p1 oI2l (p2 oSub (pI (-1)) (pL 1 2))))]) (eCall 94 [(eP (pL 3 0)), (eCall 0 [(eP (pI 3)), (eP (p1 oI2l (p2 oSub (pI (-1)) (pL 1 2))))])])))))
theorem k_102 : b_102.1.1 x_102 (0, true, []) = some ((56, false, []), [], []) := by decide +kernel
/-- LazyForms$Machine.begun -/
def i_103 : List (Nat × Instr × Nat) := [(0, .aload_n 0, 1), (1, .iload_n 1, 1), (2, .invokevirtual 213, 3), (5, .tableswitch 108 1 4 #[31, 42, 108, 84], 31), (36, .iconst 0, 1), (37, .aload_n 0, 1), (38, .iload_n 1, 1), (39, .invokevirtual 222, 3), (42, .i2l, 1), (43, .invokestatic 188, 3), (46, .lreturn, 1), (47, .aload_n 0, 1), (48, .iload_n 1, 1), (49, .invokevirtual 215, 3), (52, .ifCond .ne 16, 3), (55, .iconst 1, 1), (56, .aload_n 0, 1), (57, .iload_n 1, 1), (58, .invokevirtual 222, 3), (61, .i2l, 1), (62, .invokestatic 188, 3), (65, .goto 23, 3), (68, .iconst 4, 1), (69, .aload_n 0, 1), (70, .iconst 3, 1), (71, .aload_n 0, 1), (72, .iload_n 1, 1), (73, .invokevirtual 215, 3), (76, .aload_n 0, 1), (77, .iload_n 1, 1), (78, .invokevirtual 222, 3), (81, .invokevirtual 240, 3), (84, .i2l, 1), (85, .invokestatic 188, 3), (88, .lreturn, 1), (89, .iconst 4, 1), (90, .aload_n 0, 1), (91, .iconst 2, 1), (92, .iconst 1, 1), (93, .aload_n 0, 1), (94, .iload_n 1, 1), (95, .invokevirtual 210, 3), (98, .invokestatic 244, 3), (101, .invokestatic 163, 3), (104, .iload_n 1, 1), (105, .invokevirtual 240, 3), (108, .i2l, 1), (109, .invokestatic 188, 3), (112, .lreturn, 1), (113, .iconst 4, 1), (114, .aload_n 0, 1), (115, .iconst 0, 1), (116, .iconst 1, 1), (117, .aload_n 0, 1), (118, .iload_n 1, 1), (119, .invokevirtual 210, 3), (122, .invokestatic 244, 3), (125, .invokestatic 163, 3), (128, .iload_n 1, 1), (129, .invokevirtual 240, 3), (132, .i2l, 1), (133, .invokestatic 188, 3), (136, .lreturn, 1)]
def x_103 : zCx := (1, false, 2, zCode i_103, [])
def b_103 : zS := (sSw (eCall 74 [(eP (pL 3 0)), (eP (pL 1 1))]) [(1, 0), (2, 1), (4, 2)] 3 [(sRet 2 (eCall 0 [(eP (pI 0)), (e1 oI2l (eCall 75 [(eP (pL 3 0)), (eP (pL 1 1))]))])),
  (sRet 2 (eIte (c0 .eq (eCall 77 [(eP (pL 3 0)), (eP (pL 1 1))])) (eCall 0 [(eP (pI 1)), (e1 oI2l (eCall 75 [(eP (pL 3 0)), (eP (pL 1 1))]))]) (eCall 0 [(eP (pI 4)), (e1 oI2l (eCall 93 [(eP (pL 3 0)), (eP (pI 3)), (eCall 77 [(eP (pL 3 0)), (eP (pL 1 1))]), (eCall 75 [(eP (pL 3 0)), (eP (pL 1 1))])]))]))),
  (sRet 2 (eCall 0 [(eP (pI 4)), (e1 oI2l (eCall 93 [(eP (pL 3 0)), (eP (pI 2)), (eCall 235 [(eP (pI 1)), (eCall 237 [(eCall 78 [(eP (pL 3 0)), (eP (pL 1 1))])])]), (eP (pL 1 1))]))])),
  (sRet 2 (eCall 0 [(eP (pI 4)), (e1 oI2l (eCall 93 [(eP (pL 3 0)), (eP (pI 0)), (eCall 235 [(eP (pI 1)), (eCall 237 [(eCall 78 [(eP (pL 3 0)), (eP (pL 1 1))])])]), (eP (pL 1 1))]))]))])
theorem k_103 : b_103.1.1 x_103 (0, true, []) = some ((137, false, []), [], []) := by decide +kernel
/-- LazyForms$Machine.fill -/
def i_104 : List (Nat × Instr × Nat) := [(0, .lload_n 1, 1), (1, .ldc2_w 174, 3), (4, .land, 1), (5, .ldc2_w 180, 3), (8, .lcmp, 1), (9, .ifCond .eq 4, 3), (12, .return_, 1), (13, .lload_n 1, 1), (14, .iconst 3, 1), (15, .lshr, 1), (16, .l2i, 1), (17, .iconst 1, 1), (18, .iadd, 1), (19, .istore 4, 2), (21, .aload_n 0, 1), (22, .iload_n 3, 1), (23, .invokevirtual 213, 3), (26, .iconst 2, 1), (27, .if_icmp .ne 103, 3), (30, .iload_n 3, 1), (31, .aload_n 0, 1), (32, .iload_n 3, 1), (33, .invokevirtual 217, 3), (36, .invokestatic 93, 3), (39, .istore 5, 2), (41, .iload 5, 2), (43, .iconst (-1), 1), (44, .if_icmp .eq 25, 3), (47, .aload_n 0, 1), (48, .getfield 18, 3), (51, .iload 4, 2), (53, .lconst 0, 1), (54, .lastore, 1), (55, .iinc 4 1, 3), (58, .aload_n 0, 1), (59, .iload 5, 2), (61, .invokevirtual 227, 3), (64, .istore 5, 2), (66, .goto (-25), 3), (69, .lload_n 1, 1), (70, .iconst 3, 1), (71, .lshr, 1), (72, .l2i, 1), (73, .iconst 1, 1), (74, .iadd, 1), (75, .istore 4, 2), (77, .iload_n 3, 1), (78, .aload_n 0, 1), (79, .iload_n 3, 1), (80, .invokevirtual 217, 3), (83, .invokestatic 93, 3), (86, .istore 5, 2), (88, .iload 5, 2), (90, .iconst (-1), 1), (91, .if_icmp .eq 38, 3), (94, .aload_n 0, 1), (95, .getfield 18, 3), (98, .iload 4, 2), (100, .aload_n 0, 1), (101, .iload_n 3, 1), (102, .aload_n 0, 1), (103, .iload 5, 2), (105, .invokevirtual 222, 3), (108, .invokestatic 93, 3), (111, .invokevirtual 249, 3), (114, .lastore, 1), (115, .iinc 4 1, 3), (118, .aload_n 0, 1), (119, .iload 5, 2), (121, .invokevirtual 227, 3), (124, .istore 5, 2), (126, .goto (-38), 3), (129, .return_, 1), (130, .aload_n 0, 1), (131, .getfield 18, 3), (134, .iload 4, 2), (136, .lconst 0, 1), (137, .lastore, 1), (138, .aload_n 0, 1), (139, .iload_n 3, 1), (140, .invokevirtual 210, 3), (143, .istore 5, 2), (145, .iconst 0, 1), (146, .istore 6, 2), (148, .iload 6, 2), (150, .bipush 16, 2), (152, .if_icmp .ge 39, 3), (155, .iload 5, 2), (157, .iload 6, 2), (159, .ishr, 1), (160, .iconst 1, 1), (161, .iand, 1), (162, .ifCond .ne 6, 3), (165, .goto 20, 3), (168, .aload_n 0, 1), (169, .getfield 18, 3), (172, .iload 4, 2), (174, .aload_n 0, 1), (175, .getfield 32, 3), (178, .iload 6, 2), (180, .laload, 1), (181, .lastore, 1), (182, .iinc 4 1, 3), (185, .iinc 6 1, 3), (188, .goto (-40), 3), (191, .return_, 1)]
def x_104 : zCx := (1, false, 0, zCode i_104, [])
def b_104 : zS := (sSeq (sSeq (sIf (cP (kL .ne (p2 oLand (pL 2 1) (pJ 7)) (pJ 4)))
  sRet0)
  (sSeq (sSt 1 4 (eP (p2 oAdd (p1 oL2i (p2 oLshr (pL 2 1) (pI 3))) (pI 1))))
  (sSeq (sIf (cI .eq (eCall 74 [(eP (pL 3 0)), (eP (pL 1 3))]) (eP (pI 2)))
  (sSeq (sBlk 5 (sSeq (sSt 1 5 (eCall 79 [(eP (pL 1 3)), (eCall 76 [(eP (pL 3 0)), (eP (pL 1 3))])]))
  (sWh (cP (kI .ne (pL 1 5) (pI (-1))))
  (sSeq (sSe 4 (eP (p1 (oGf 1 4 3) (pL 3 0))) (eP (pL 1 4)) (eP (pJ 0)))
  (sInc 4 1))
  (sSt 1 5 (eCall 80 [(eP (pL 3 0)), (eP (pL 1 5))])))))
  (sSeq (sSt 1 4 (eP (p2 oAdd (p1 oL2i (p2 oLshr (pL 2 1) (pI 3))) (pI 1))))
  (sSeq (sBlk 5 (sSeq (sSt 1 5 (eCall 79 [(eP (pL 1 3)), (eCall 76 [(eP (pL 3 0)), (eP (pL 1 3))])]))
  (sWh (cP (kI .ne (pL 1 5) (pI (-1))))
  (sSeq (sSe 4 (eP (p1 (oGf 1 4 3) (pL 3 0))) (eP (pL 1 4)) (eCall 101 [(eP (pL 3 0)), (eCall 79 [(eP (pL 1 3)), (eCall 75 [(eP (pL 3 0)), (eP (pL 1 5))])])]))
  (sInc 4 1))
  (sSt 1 5 (eCall 80 [(eP (pL 3 0)), (eP (pL 1 5))])))))
  sRet0))))
  (sSeq (sSe 4 (eP (p1 (oGf 1 4 3) (pL 3 0))) (eP (pL 1 4)) (eP (pJ 0)))
  (sSeq (sSt 1 5 (eCall 78 [(eP (pL 3 0)), (eP (pL 1 3))]))
  (sBlk 6 (sSeq (sSt 1 6 (eP (pI 0)))
  (sWh (cP (kI .lt (pL 1 6) (pI 16)))
  (sSeq (sIf (cP (k0 .eq (p2 oAnd (p2 oShr (pL 1 5) (pL 1 6)) (pI 1))))
  (sCnt true))
  (sSeq (sSe 4 (eP (p1 (oGf 1 4 3) (pL 3 0))) (eP (pL 1 4)) (eP (p2 oLald (p1 (oGf 1 10 3) (pL 3 0)) (pL 1 6))))
  (sInc 4 1)))
  (sInc 6 1)))))))))
  sRet0)
theorem k_104 : b_104.1.1 x_104 (0, true, []) = some ((192, false, []), [], []) := by decide +kernel
/-- LazyForms$Machine.make -/
def i_105 : List (Nat × Instr × Nat) := [(0, .aload_n 0, 1), (1, .iload_n 1, 1), (2, .invokevirtual 252, 3), (5, .lstore_n 2, 1), (6, .aload_n 0, 1), (7, .lload_n 2, 1), (8, .iload_n 1, 1), (9, .invokevirtual 255, 3), (12, .lload_n 2, 1), (13, .lreturn, 1)]
def x_105 : zCx := (1, false, 2, zCode i_105, [])
def b_105 : zS := (sSeq (sSt 2 2 (eCall 103 [(eP (pL 3 0)), (eP (pL 1 1))]))
  (sSeq (sCall 104 [(eP (pL 3 0)), (eP (pL 2 2)), (eP (pL 1 1))])
  (sRet 2 (eP (pL 2 2)))))
theorem k_105 : b_105.1.1 x_105 (0, true, []) = some ((14, false, []), [], []) := by decide +kernel
/-- LazyForms$Machine.run -/
def i_106 : List (Nat × Instr × Nat) := [(0, .iload_n 1, 1), (1, .istore_n 2, 1), (2, .aload_n 0, 1), (3, .getfield 103, 3), (6, .iconst 1, 1), (7, .if_icmp .ne 66, 3), (10, .iload_n 2, 1), (11, .ifCond .le 62, 3), (14, .iinc 2 (-1), 3), (17, .aload_n 0, 1), (18, .dup, 1), (19, .getfield 121, 3), (22, .iconst 1, 1), (23, .iadd, 1), (24, .putfield 121, 3), (27, .aload_n 0, 1), (28, .getfield 152, 3), (31, .lstore_n 3, 1), (32, .aload_n 0, 1), (33, .lconst 0, 1), (34, .putfield 152, 3), (37, .aload_n 0, 1), (38, .getfield 148, 3), (41, .ifCond .eq 21, 3), (44, .aload_n 0, 1), (45, .iconst (-1), 1), (46, .putfield 133, 3), (49, .aload_n 0, 1), (50, .iconst 0, 1), (51, .putfield 148, 3), (54, .aload_n 0, 1), (55, .lload_n 3, 1), (56, .invokevirtual 259, 3), (59, .goto 11, 3), (62, .aload_n 0, 1), (63, .aload_n 0, 1), (64, .getfield 146, 3), (67, .invokevirtual 262, 3), (70, .goto (-68), 3), (73, .goto 9, 3), (76, .astore_n 3, 1), (77, .aload_n 0, 1), (78, .getfield 103, 3), (81, .ireturn, 1), (82, .aload_n 0, 1), (83, .getfield 103, 3), (86, .ireturn, 1)]
def x_106 : zCx := (1, false, 1, zCode i_106, [(2, 73, 76, 9)])
def b_106 : zS := (sSeq (sSt 1 2 (eP (pL 1 1)))
  (sSeq (sTry (sWh (cP (kAnd (kI .eq (p1 (oGf 1 17 1) (pL 3 0)) (pI 1)) (k0 .gt (pL 1 2))))
  (sBlk 3 (sSeq (sInc 2 (-1))
  (sSeq (sPfo (eP (pL 3 0)) 1 18 1 oAdd (eP (pI 1)))
  (sSeq (sSt 2 3 (eP (p1 (oGf 1 27 2) (pL 3 0))))
  (sSeq (sPf (eP (pL 3 0)) 1 27 2 (eP (pJ 0)))
  (sIfE (cP (k0 .ne (p1 (oGf 1 26 4) (pL 3 0))))
  (sSeq (sPf (eP (pL 3 0)) 1 22 1 (eP (pI (-1))))
  (sSeq (sPf (eP (pL 3 0)) 1 26 4 (eP (pI 0)))
  (sCall 108 [(eP (pL 3 0)), (eP (pL 2 3))])))
  (sCall 109 [(eP (pL 3 0)), (eP (p1 (oGf 1 25 1) (pL 3 0)))])))))))
  sSkip) 3 3 (sRet 1 (eP (p1 (oGf 1 17 1) (pL 3 0)))))
  (sRet 1 (eP (p1 (oGf 1 17 1) (pL 3 0))))))
theorem k_106 : b_106.1.1 x_106 (0, true, []) = some ((87, false, []), [], []) := by decide +kernel
/-- LazyForms$Machine.goOn -/
def i_107 : List (Nat × Instr × Nat) := [(0, .aload_n 0, 1), (1, .iload_n 1, 1), (2, .putfield 146, 3), (5, .aload_n 0, 1), (6, .iconst 0, 1), (7, .putfield 148, 3), (10, .return_, 1)]
def x_107 : zCx := (1, false, 0, zCode i_107, [])
def b_107 : zS := (sSeq (sSeq (sPf (eP (pL 3 0)) 1 25 1 (eP (pL 1 1)))
  (sPf (eP (pL 3 0)) 1 26 4 (eP (pI 0))))
  sRet0)
theorem k_107 : b_107.1.1 x_107 (0, true, []) = some ((11, false, []), [], []) := by decide +kernel
/-- LazyForms$Machine.wants -/
def i_108 : List (Nat × Instr × Nat) := [(0, .aload_n 0, 1), (1, .lload_n 1, 1), (2, .invokevirtual 237, 3), (5, .lstore_n 3, 1), (6, .lload_n 3, 1), (7, .iconst 3, 1), (8, .lshr, 1), (9, .l2i, 1), (10, .istore 5, 2), (12, .lload_n 3, 1), (13, .ldc2_w 174, 3), (16, .land, 1), (17, .ldc2_w 186, 3), (20, .lcmp, 1), (21, .ifCond .ne 53, 3), (24, .aload_n 0, 1), (25, .getfield 25, 3), (28, .iload 5, 2), (30, .iaload, 1), (31, .iconst 2, 1), (32, .if_icmp .ne 8, 3), (35, .aload_n 0, 1), (36, .iconst 3, 1), (37, .invokevirtual 159, 3), (40, .aload_n 0, 1), (41, .iconst 0, 1), (42, .iconst 0, 1), (43, .invokevirtual 139, 3), (46, .aload_n 0, 1), (47, .lload_n 3, 1), (48, .invokevirtual 168, 3), (51, .aload_n 0, 1), (52, .getfield 25, 3), (55, .iload 5, 2), (57, .iconst 2, 1), (58, .iastore, 1), (59, .aload_n 0, 1), (60, .aload_n 0, 1), (61, .getfield 62, 3), (64, .getfield 265, 3), (67, .iload 5, 2), (69, .iaload, 1), (70, .invokevirtual 268, 3), (73, .return_, 1), (74, .lload_n 3, 1), (75, .ldc2_w 174, 3), (78, .land, 1), (79, .ldc2_w 180, 3), (82, .lcmp, 1), (83, .ifCond .ne 30, 3), (86, .aload_n 0, 1), (87, .getfield 18, 3), (90, .iload 5, 2), (92, .laload, 1), (93, .invokestatic 182, 3), (96, .ifCond .eq 23, 3), (99, .aload_n 0, 1), (100, .getfield 18, 3), (103, .iload 5, 2), (105, .laload, 1), (106, .invokestatic 182, 3), (109, .iconst 1, 1), (110, .if_icmp .eq 9, 3), (113, .aload_n 0, 1), (114, .lload_n 3, 1), (115, .invokevirtual 271, 3), (118, .return_, 1), (119, .aload_n 0, 1), (120, .getfield 18, 3), (123, .iload 5, 2), (125, .laload, 1), (126, .invokestatic 182, 3), (129, .iconst 1, 1), (130, .if_icmp .ne 8, 3), (133, .aload_n 0, 1), (134, .iconst 3, 1), (135, .invokevirtual 159, 3), (138, .aload_n 0, 1), (139, .iconst 0, 1), (140, .iconst 0, 1), (141, .invokevirtual 139, 3), (144, .aload_n 0, 1), (145, .lload_n 3, 1), (146, .invokevirtual 168, 3), (149, .aload_n 0, 1), (150, .getfield 18, 3), (153, .iload 5, 2), (155, .laload, 1), (156, .invokestatic 195, 3), (159, .istore 6, 2), (161, .aload_n 0, 1), (162, .aload_n 0, 1), (163, .iload 6, 2), (165, .invokevirtual 210, 3), (168, .aload_n 0, 1), (169, .getfield 18, 3), (172, .iload 5, 2), (174, .iconst 1, 1), (175, .iadd, 1), (176, .invokevirtual 274, 3), (179, .aload_n 0, 1), (180, .getfield 18, 3), (183, .iload 5, 2), (185, .iconst 1, 1), (186, .aload_n 0, 1), (187, .getfield 18, 3), (190, .iload 5, 2), (192, .laload, 1), (193, .invokestatic 192, 3), (196, .iload 6, 2), (198, .invokestatic 176, 3), (201, .lastore, 1), (202, .aload_n 0, 1), (203, .iload 6, 2), (205, .invokevirtual 268, 3), (208, .return_, 1)]
def x_108 : zCx := (1, false, 0, zCode i_108, [])
def b_108 : zS := (sSeq (sSeq (sSt 2 3 (eCall 94 [(eP (pL 3 0)), (eP (pL 2 1))]))
  (sSeq (sSt 1 5 (eP (p1 oL2i (p2 oLshr (pL 2 3) (pI 3)))))
  (sSeq (sIf (cP (kL .eq (p2 oLand (pL 2 3) (pJ 7)) (pJ 3)))
  (sSeq (sIf (cP (kI .eq (p2 oIald (p1 (oGf 1 8 3) (pL 3 0)) (pL 1 5)) (pI 2)))
  (sCall 84 [(eP (pL 3 0)), (eP (pI 3))]))
  (sSeq (sCall 85 [(eP (pL 3 0)), (eP (pI 0)), (eP (pI 0))])
  (sSeq (sCall 86 [(eP (pL 3 0)), (eP (pL 2 3))])
  (sSeq (sSe 1 (eP (p1 (oGf 1 8 3) (pL 3 0))) (eP (pL 1 5)) (eP (pI 2)))
  (sSeq (sCall 107 [(eP (pL 3 0)), (eP (p2 oIald (p1 (oGf 5 15 3) (p1 (oGf 1 2 3) (pL 3 0))) (pL 1 5)))])
  sRet0))))))
  (sSeq (sIf (cOr (cP (kL .ne (p2 oLand (pL 2 3) (pJ 7)) (pJ 4))) (cAnd (c0 .ne (eCall 90 [(eP (p2 oLald (p1 (oGf 1 4 3) (pL 3 0)) (pL 1 5)))])) (cI .ne (eCall 90 [(eP (p2 oLald (p1 (oGf 1 4 3) (pL 3 0)) (pL 1 5)))]) (eP (pI 1)))))
  (sSeq (sCall 113 [(eP (pL 3 0)), (eP (pL 2 3))])
  sRet0))
  (sSeq (sIf (cI .eq (eCall 90 [(eP (p2 oLald (p1 (oGf 1 4 3) (pL 3 0)) (pL 1 5)))]) (eP (pI 1)))
  (sCall 84 [(eP (pL 3 0)), (eP (pI 3))]))
  (sSeq (sCall 85 [(eP (pL 3 0)), (eP (pI 0)), (eP (pI 0))])
  (sSeq (sCall 86 [(eP (pL 3 0)), (eP (pL 2 3))])
  (sSeq (sSt 1 6 (eCall 91 [(eP (p2 oLald (p1 (oGf 1 4 3) (pL 3 0)) (pL 1 5)))]))
  (sSeq (sCall 88 [(eP (pL 3 0)), (eCall 78 [(eP (pL 3 0)), (eP (pL 1 6))]), (eP (p1 (oGf 1 4 3) (pL 3 0))), (eP (p2 oAdd (pL 1 5) (pI 1)))])
  (sSeq (sSe 4 (eP (p1 (oGf 1 4 3) (pL 3 0))) (eP (pL 1 5)) (eCall 92 [(eP (pI 1)), (eCall 89 [(eP (p2 oLald (p1 (oGf 1 4 3) (pL 3 0)) (pL 1 5)))]), (eP (pL 1 6))]))
  (sCall 107 [(eP (pL 3 0)), (eP (pL 1 6))])))))))))))
  sRet0)
theorem k_108 : b_108.1.1 x_108 (0, true, []) = some ((209, false, []), [], []) := by decide +kernel
/-- LazyForms$Machine.step -/
def i_109 : List (Nat × Instr × Nat) := [(0, .aload_n 0, 1), (1, .aload_n 0, 1), (2, .iload_n 1, 1), (3, .invokevirtual 69, 3), (6, .getfield 278, 3), (9, .iload_n 1, 1), (10, .sipush 4096, 3), (13, .irem, 1), (14, .iaload, 1), (15, .putfield 133, 3), (18, .aload_n 0, 1), (19, .iload_n 1, 1), (20, .invokevirtual 213, 3), (23, .tableswitch 155 0 7 #[45, 57, 74, 100, 74, 108, 155, 116], 45), (68, .aload_n 0, 1), (69, .aload_n 0, 1), (70, .iload_n 1, 1), (71, .invokevirtual 230, 3), (74, .invokevirtual 259, 3), (77, .goto 137, 3), (80, .aload_n 0, 1), (81, .iconst 0, 1), (82, .aload_n 0, 1), (83, .iload_n 1, 1), (84, .invokevirtual 222, 3), (87, .i2l, 1), (88, .invokestatic 188, 3), (91, .invokevirtual 271, 3), (94, .goto 120, 3), (97, .aload_n 0, 1), (98, .aload_n 0, 1), (99, .iload_n 1, 1), (100, .invokevirtual 224, 3), (103, .aload_n 0, 1), (104, .iload_n 1, 1), (105, .invokevirtual 210, 3), (108, .invokevirtual 280, 3), (111, .aload_n 0, 1), (112, .aload_n 0, 1), (113, .iload_n 1, 1), (114, .invokevirtual 234, 3), (117, .invokevirtual 271, 3), (120, .goto 94, 3), (123, .aload_n 0, 1), (124, .iload_n 1, 1), (125, .invokevirtual 283, 3), (128, .goto 86, 3), (131, .aload_n 0, 1), (132, .iload_n 1, 1), (133, .invokevirtual 286, 3), (136, .goto 78, 3), (139, .aload_n 0, 1), (140, .iconst 2, 1), (141, .iload_n 1, 1), (142, .invokevirtual 139, 3), (145, .aload_n 0, 1), (146, .aload_n 0, 1), (147, .iload_n 1, 1), (148, .aload_n 0, 1), (149, .iload_n 1, 1), (150, .invokevirtual 217, 3), (153, .invokestatic 93, 3), (156, .invokevirtual 210, 3), (159, .invokevirtual 289, 3), (162, .aload_n 0, 1), (163, .iload_n 1, 1), (164, .aload_n 0, 1), (165, .iload_n 1, 1), (166, .invokevirtual 222, 3), (169, .invokestatic 93, 3), (172, .invokevirtual 268, 3), (175, .goto 39, 3), (178, .aload_n 0, 1), (179, .iconst 3, 1), (180, .iload_n 1, 1), (181, .invokevirtual 139, 3), (184, .aload_n 0, 1), (185, .aload_n 0, 1), (186, .iload_n 1, 1), (187, .aload_n 0, 1), (188, .iload_n 1, 1), (189, .invokevirtual 217, 3), (192, .invokestatic 93, 3), (195, .invokevirtual 210, 3), (198, .invokevirtual 289, 3), (201, .aload_n 0, 1), (202, .iload_n 1, 1), (203, .aload_n 0, 1), (204, .iload_n 1, 1), (205, .invokevirtual 222, 3), (208, .invokestatic 93, 3), (211, .invokevirtual 268, 3), (214, .return_, 1)]
def x_109 : zCx := (1, false, 0, zCode i_109, [])
def b_109 : zS := (sSeq (sSeq (sPf (eP (pL 3 0)) 1 22 1 (e2 oIald (e1 (oGf 5 1 3) (eCall 73 [(eP (pL 3 0)), (eP (pL 1 1))])) (eP (p2 oRem (pL 1 1) (pI 4096)))))
  (sSw (eCall 74 [(eP (pL 3 0)), (eP (pL 1 1))]) [(0, 0), (1, 1), (2, 2), (3, 3), (4, 2), (5, 4), (7, 5)] 6 [(sSeq (sCall 108 [(eP (pL 3 0)), (eCall 102 [(eP (pL 3 0)), (eP (pL 1 1))])])
  (sBrk true)),
  (sSeq (sCall 113 [(eP (pL 3 0)), (eCall 0 [(eP (pI 0)), (e1 oI2l (eCall 75 [(eP (pL 3 0)), (eP (pL 1 1))]))])])
  (sBrk true)),
  (sSeq (sCall 97 [(eP (pL 3 0)), (eCall 99 [(eP (pL 3 0)), (eP (pL 1 1))]), (eCall 78 [(eP (pL 3 0)), (eP (pL 1 1))])])
  (sSeq (sCall 113 [(eP (pL 3 0)), (eCall 105 [(eP (pL 3 0)), (eP (pL 1 1))])])
  (sBrk true))),
  (sSeq (sCall 110 [(eP (pL 3 0)), (eP (pL 1 1))])
  (sBrk true)),
  (sSeq (sCall 111 [(eP (pL 3 0)), (eP (pL 1 1))])
  (sBrk true)),
  (sSeq (sCall 85 [(eP (pL 3 0)), (eP (pI 2)), (eP (pL 1 1))])
  (sSeq (sCall 87 [(eP (pL 3 0)), (eCall 78 [(eP (pL 3 0)), (eCall 79 [(eP (pL 1 1)), (eCall 76 [(eP (pL 3 0)), (eP (pL 1 1))])])])])
  (sSeq (sCall 107 [(eP (pL 3 0)), (eCall 79 [(eP (pL 1 1)), (eCall 75 [(eP (pL 3 0)), (eP (pL 1 1))])])])
  (sBrk true)))),
  (sSeq (sCall 85 [(eP (pL 3 0)), (eP (pI 3)), (eP (pL 1 1))])
  (sSeq (sCall 87 [(eP (pL 3 0)), (eCall 78 [(eP (pL 3 0)), (eCall 79 [(eP (pL 1 1)), (eCall 76 [(eP (pL 3 0)), (eP (pL 1 1))])])])])
  (sSeq (sCall 107 [(eP (pL 3 0)), (eCall 79 [(eP (pL 1 1)), (eCall 75 [(eP (pL 3 0)), (eP (pL 1 1))])])])
  (sBrk false))))]))
  sRet0)
theorem k_109 : b_109.1.1 x_109 (0, true, []) = some ((215, false, []), [], []) := by decide +kernel
/-- LazyForms$Machine.use -/
def i_110 : List (Nat × Instr × Nat) := [(0, .aload_n 0, 1), (1, .aload_n 0, 1), (2, .aload_n 0, 1), (3, .iload_n 1, 1), (4, .invokevirtual 217, 3), (7, .iload_n 1, 1), (8, .invokevirtual 219, 3), (11, .aload_n 0, 1), (12, .iload_n 1, 1), (13, .invokevirtual 210, 3), (16, .invokevirtual 280, 3), (19, .iconst 0, 1), (20, .istore_n 2, 1), (21, .iload_n 1, 1), (22, .aload_n 0, 1), (23, .iload_n 1, 1), (24, .invokevirtual 217, 3), (27, .invokestatic 93, 3), (30, .istore_n 3, 1), (31, .iload_n 3, 1), (32, .iconst (-1), 1), (33, .if_icmp .eq 34, 3), (36, .aload_n 0, 1), (37, .getfield 51, 3), (40, .iload_n 2, 1), (41, .aload_n 0, 1), (42, .iload_n 1, 1), (43, .aload_n 0, 1), (44, .iload_n 3, 1), (45, .invokevirtual 222, 3), (48, .invokestatic 93, 3), (51, .invokevirtual 249, 3), (54, .lastore, 1), (55, .iinc 2 1, 3), (58, .aload_n 0, 1), (59, .iload_n 3, 1), (60, .invokevirtual 227, 3), (63, .istore_n 3, 1), (64, .goto (-33), 3), (67, .aload_n 0, 1), (68, .iconst 1, 1), (69, .iconst 0, 1), (70, .invokevirtual 139, 3), (73, .iconst 0, 1), (74, .istore_n 3, 1), (75, .iload_n 3, 1), (76, .iload_n 2, 1), (77, .if_icmp .ge 19, 3), (80, .aload_n 0, 1), (81, .aload_n 0, 1), (82, .getfield 51, 3), (85, .iload_n 3, 1), (86, .laload, 1), (87, .invokevirtual 168, 3), (90, .iinc 3 1, 3), (93, .goto (-18), 3), (96, .aload_n 0, 1), (97, .iload_n 1, 1), (98, .aload_n 0, 1), (99, .iload_n 1, 1), (100, .invokevirtual 222, 3), (103, .invokestatic 93, 3), (106, .invokevirtual 268, 3), (109, .return_, 1)]
def x_110 : zCx := (1, false, 0, zCode i_110, [])
def b_110 : zS := (sSeq (sSeq (sCall 97 [(eP (pL 3 0)), (eCall 100 [(eP (pL 3 0)), (eCall 76 [(eP (pL 3 0)), (eP (pL 1 1))]), (eP (pL 1 1))]), (eCall 78 [(eP (pL 3 0)), (eP (pL 1 1))])])
  (sSeq (sSt 1 2 (eP (pI 0)))
  (sSeq (sBlk 3 (sSeq (sSt 1 3 (eCall 79 [(eP (pL 1 1)), (eCall 76 [(eP (pL 3 0)), (eP (pL 1 1))])]))
  (sWh (cP (kI .ne (pL 1 3) (pI (-1))))
  (sSeq (sSe 4 (eP (p1 (oGf 1 30 3) (pL 3 0))) (eP (pL 1 2)) (eCall 101 [(eP (pL 3 0)), (eCall 79 [(eP (pL 1 1)), (eCall 75 [(eP (pL 3 0)), (eP (pL 1 3))])])]))
  (sInc 2 1))
  (sSt 1 3 (eCall 80 [(eP (pL 3 0)), (eP (pL 1 3))])))))
  (sSeq (sCall 85 [(eP (pL 3 0)), (eP (pI 1)), (eP (pI 0))])
  (sSeq (sBlk 3 (sSeq (sSt 1 3 (eP (pI 0)))
  (sWh (cP (kI .lt (pL 1 3) (pL 1 2)))
  (sCall 86 [(eP (pL 3 0)), (eP (p2 oLald (p1 (oGf 1 30 3) (pL 3 0)) (pL 1 3)))])
  (sInc 3 1))))
  (sCall 107 [(eP (pL 3 0)), (eCall 79 [(eP (pL 1 1)), (eCall 75 [(eP (pL 3 0)), (eP (pL 1 1))])])]))))))
  sRet0)
theorem k_110 : b_110.1.1 x_110 (0, true, []) = some ((110, false, []), [], []) := by decide +kernel
/-- LazyForms$Machine.let -/
def i_111 : List (Nat × Instr × Nat) := [(0, .iconst 0, 1), (1, .istore_n 2, 1), (2, .iload_n 1, 1), (3, .aload_n 0, 1), (4, .iload_n 1, 1), (5, .invokevirtual 222, 3), (8, .invokestatic 93, 3), (11, .istore_n 3, 1), (12, .iload_n 3, 1), (13, .iconst (-1), 1), (14, .if_icmp .eq 28, 3), (17, .iload_n 2, 1), (18, .aload_n 0, 1), (19, .iload_n 1, 1), (20, .aload_n 0, 1), (21, .iload_n 3, 1), (22, .invokevirtual 217, 3), (25, .invokestatic 93, 3), (28, .invokevirtual 224, 3), (31, .iadd, 1), (32, .istore_n 2, 1), (33, .aload_n 0, 1), (34, .iload_n 3, 1), (35, .invokevirtual 227, 3), (38, .istore_n 3, 1), (39, .goto (-27), 3), (42, .aload_n 0, 1), (43, .iload_n 2, 1), (44, .aload_n 0, 1), (45, .iload_n 1, 1), (46, .invokevirtual 210, 3), (49, .invokevirtual 280, 3), (52, .iload_n 1, 1), (53, .aload_n 0, 1), (54, .iload_n 1, 1), (55, .invokevirtual 222, 3), (58, .invokestatic 93, 3), (61, .istore_n 3, 1), (62, .iload_n 3, 1), (63, .iconst (-1), 1), (64, .if_icmp .eq 35, 3), (67, .aload_n 0, 1), (68, .getfield 32, 3), (71, .aload_n 0, 1), (72, .iload_n 3, 1), (73, .invokevirtual 222, 3), (76, .aload_n 0, 1), (77, .iload_n 1, 1), (78, .aload_n 0, 1), (79, .iload_n 3, 1), (80, .invokevirtual 217, 3), (83, .invokestatic 93, 3), (86, .invokevirtual 252, 3), (89, .lastore, 1), (90, .aload_n 0, 1), (91, .iload_n 3, 1), (92, .invokevirtual 227, 3), (95, .istore_n 3, 1), (96, .goto (-34), 3), (99, .iload_n 1, 1), (100, .aload_n 0, 1), (101, .iload_n 1, 1), (102, .invokevirtual 222, 3), (105, .invokestatic 93, 3), (108, .istore_n 3, 1), (109, .iload_n 3, 1), (110, .iconst (-1), 1), (111, .if_icmp .eq 35, 3), (114, .aload_n 0, 1), (115, .aload_n 0, 1), (116, .getfield 32, 3), (119, .aload_n 0, 1), (120, .iload_n 3, 1), (121, .invokevirtual 222, 3), (124, .laload, 1), (125, .iload_n 1, 1), (126, .aload_n 0, 1), (127, .iload_n 3, 1), (128, .invokevirtual 217, 3), (131, .invokestatic 93, 3), (134, .invokevirtual 255, 3), (137, .aload_n 0, 1), (138, .iload_n 3, 1), (139, .invokevirtual 227, 3), (142, .istore_n 3, 1), (143, .goto (-34), 3), (146, .aload_n 0, 1), (147, .iload_n 1, 1), (148, .aload_n 0, 1), (149, .iload_n 1, 1), (150, .invokevirtual 217, 3), (153, .invokestatic 93, 3), (156, .invokevirtual 268, 3), (159, .return_, 1)]
def x_111 : zCx := (1, false, 0, zCode i_111, [])
def b_111 : zS := (sSeq (sSeq (sSt 1 2 (eP (pI 0)))
  (sSeq (sBlk 3 (sSeq (sSt 1 3 (eCall 79 [(eP (pL 1 1)), (eCall 75 [(eP (pL 3 0)), (eP (pL 1 1))])]))
  (sWh (cP (kI .ne (pL 1 3) (pI (-1))))
  (sSt 1 2 (e2 oAdd (eP (pL 1 2)) (eCall 99 [(eP (pL 3 0)), (eCall 79 [(eP (pL 1 1)), (eCall 76 [(eP (pL 3 0)), (eP (pL 1 3))])])])))
  (sSt 1 3 (eCall 80 [(eP (pL 3 0)), (eP (pL 1 3))])))))
  (sSeq (sCall 97 [(eP (pL 3 0)), (eP (pL 1 2)), (eCall 78 [(eP (pL 3 0)), (eP (pL 1 1))])])
  (sSeq (sBlk 3 (sSeq (sSt 1 3 (eCall 79 [(eP (pL 1 1)), (eCall 75 [(eP (pL 3 0)), (eP (pL 1 1))])]))
  (sWh (cP (kI .ne (pL 1 3) (pI (-1))))
  (sSe 4 (eP (p1 (oGf 1 10 3) (pL 3 0))) (eCall 75 [(eP (pL 3 0)), (eP (pL 1 3))]) (eCall 103 [(eP (pL 3 0)), (eCall 79 [(eP (pL 1 1)), (eCall 76 [(eP (pL 3 0)), (eP (pL 1 3))])])]))
  (sSt 1 3 (eCall 80 [(eP (pL 3 0)), (eP (pL 1 3))])))))
  (sSeq (sBlk 3 (sSeq (sSt 1 3 (eCall 79 [(eP (pL 1 1)), (eCall 75 [(eP (pL 3 0)), (eP (pL 1 1))])]))
  (sWh (cP (kI .ne (pL 1 3) (pI (-1))))
  (sCall 104 [(eP (pL 3 0)), (e2 oLald (eP (p1 (oGf 1 10 3) (pL 3 0))) (eCall 75 [(eP (pL 3 0)), (eP (pL 1 3))])), (eCall 79 [(eP (pL 1 1)), (eCall 76 [(eP (pL 3 0)), (eP (pL 1 3))])])])
  (sSt 1 3 (eCall 80 [(eP (pL 3 0)), (eP (pL 1 3))])))))
  (sCall 107 [(eP (pL 3 0)), (eCall 79 [(eP (pL 1 1)), (eCall 76 [(eP (pL 3 0)), (eP (pL 1 1))])])]))))))
  sRet0)
theorem k_111 : b_111.1.1 x_111 (0, true, []) = some ((160, false, []), [], []) := by decide +kernel
/-- LazyForms$Machine.things -/
def i_112 : List (Nat × Instr × Nat) := [(0, .aload_n 0, 1), (1, .getfield 44, 3), (4, .aload_n 0, 1), (5, .getfield 106, 3), (8, .iaload, 1), (9, .aload_n 0, 1), (10, .getfield 44, 3), (13, .aload_n 0, 1), (14, .getfield 106, 3), (17, .iconst 1, 1), (18, .isub, 1), (19, .iaload, 1), (20, .isub, 1), (21, .ireturn, 1)]
def x_112 : zCx := (1, false, 1, zCode i_112, [])
def b_112 : zS := (sRet 1 (eP (p2 oSub (p2 oIald (p1 (oGf 1 14 3) (pL 3 0)) (p1 (oGf 1 15 1) (pL 3 0))) (p2 oIald (p1 (oGf 1 14 3) (pL 3 0)) (p2 oSub (p1 (oGf 1 15 1) (pL 3 0)) (pI 1))))))
theorem k_112 : b_112.1.1 x_112 (0, true, []) = some ((22, false, []), [], []) := by decide +kernel
/-- LazyForms$Machine.comes -/
def i_113 : List (Nat × Instr × Nat) := [(0, .lload_n 1, 1), (1, .lstore_n 3, 1), (2, .aload_n 0, 1), (3, .getfield 106, 3), (6, .iconst 1, 1), (7, .isub, 1), (8, .istore 5, 2), (10, .aload_n 0, 1), (11, .getfield 44, 3), (14, .iload 5, 2), (16, .iaload, 1), (17, .istore 6, 2), (19, .aload_n 0, 1), (20, .getfield 38, 3), (23, .iload 5, 2), (25, .iaload, 1), (26, .tableswitch 225 0 4 #[34, 59, 65, 80, 171], 34), (60, .aload_n 0, 1), (61, .dup, 1), (62, .getfield 106, 3), (65, .iconst 1, 1), (66, .isub, 1), (67, .putfield 106, 3), (70, .aload_n 0, 1), (71, .aload_n 0, 1), (72, .getfield 35, 3), (75, .iload 6, 2), (77, .laload, 1), (78, .lload_n 3, 1), (79, .invokevirtual 292, 3), (82, .goto 177, 3), (85, .aload_n 0, 1), (86, .lload_n 3, 1), (87, .invokevirtual 296, 3), (90, .return_, 1), (91, .aload_n 0, 1), (92, .lload_n 3, 1), (93, .aload_n 0, 1), (94, .getfield 41, 3), (97, .iload 5, 2), (99, .iaload, 1), (100, .iload 6, 2), (102, .invokevirtual 299, 3), (105, .return_, 1), (106, .lload_n 3, 1), (107, .ldc2_w 174, 3), (110, .land, 1), (111, .lconst 0, 1), (112, .lcmp, 1), (113, .ifCond .eq 8, 3), (116, .aload_n 0, 1), (117, .iconst 4, 1), (118, .invokevirtual 159, 3), (121, .aload_n 0, 1), (122, .getfield 41, 3), (125, .iload 5, 2), (127, .iaload, 1), (128, .istore 7, 2), (130, .aload_n 0, 1), (131, .aload_n 0, 1), (132, .iload 7, 2), (134, .aload_n 0, 1), (135, .iload 7, 2), (137, .invokevirtual 217, 3), (140, .invokestatic 93, 3), (143, .invokevirtual 210, 3), (146, .aload_n 0, 1), (147, .getfield 35, 3), (150, .iload 6, 2), (152, .invokevirtual 274, 3), (155, .aload_n 0, 1), (156, .dup, 1), (157, .getfield 106, 3), (160, .iconst 1, 1), (161, .isub, 1), (162, .putfield 106, 3), (165, .aload_n 0, 1), (166, .iconst 4, 1), (167, .aload_n 0, 1), (168, .iload 7, 2), (170, .invokevirtual 215, 3), (173, .invokevirtual 139, 3), (176, .aload_n 0, 1), (177, .lload_n 3, 1), (178, .invokevirtual 168, 3), (181, .aload_n 0, 1), (182, .iload 7, 2), (184, .aload_n 0, 1), (185, .iload 7, 2), (187, .invokevirtual 217, 3), (190, .invokestatic 93, 3), (193, .invokevirtual 268, 3), (196, .return_, 1), (197, .lload_n 3, 1), (198, .ldc2_w 174, 3), (201, .land, 1), (202, .lconst 0, 1), (203, .lcmp, 1), (204, .ifCond .eq 8, 3), (207, .aload_n 0, 1), (208, .iconst 4, 1), (209, .invokevirtual 159, 3), (212, .aload_n 0, 1), (213, .dup, 1), (214, .getfield 106, 3), (217, .iconst 1, 1), (218, .isub, 1), (219, .putfield 106, 3), (222, .aload_n 0, 1), (223, .aload_n 0, 1), (224, .getfield 41, 3), (227, .iload 5, 2), (229, .iaload, 1), (230, .aload_n 0, 1), (231, .getfield 35, 3), (234, .iload 6, 2), (236, .laload, 1), (237, .iconst 3, 1), (238, .lshr, 1), (239, .l2i, 1), (240, .lload_n 3, 1), (241, .iconst 3, 1), (242, .lshr, 1), (243, .l2i, 1), (244, .invokevirtual 303, 3), (247, .lstore_n 3, 1), (248, .goto 11, 3), (251, .aload_n 0, 1), (252, .lload_n 3, 1), (253, .iload 5, 2), (255, .invokevirtual 306, 3), (258, .return_, 1), (259, .goto (-257), 3)]
def x_113 : zCx := (1, false, 0, zCode i_113, [])
def b_113 : zS := (sSeq (sSt 2 3 (eP (pL 2 1)))
  (sLoop (sBlk 5 (sSeq (sSt 1 5 (eP (p2 oSub (p1 (oGf 1 15 1) (pL 3 0)) (pI 1))))
  (sSeq (sSt 1 6 (eP (p2 oIald (p1 (oGf 1 14 3) (pL 3 0)) (pL 1 5))))
  (sBlk 7 (sSw (eP (p2 oIald (p1 (oGf 1 12 3) (pL 3 0)) (pL 1 5))) [(0, 0), (1, 1), (2, 2), (3, 3), (4, 4)] 5 [(sSeq (sPfo (eP (pL 3 0)) 1 15 1 oSub (eP (pI 1)))
  (sSeq (sCall 114 [(eP (pL 3 0)), (eP (p2 oLald (p1 (oGf 1 11 3) (pL 3 0)) (pL 1 6))), (eP (pL 2 3))])
  (sBrk true))),
  (sSeq (sCall 116 [(eP (pL 3 0)), (eP (pL 2 3))])
  sRet0),
  (sSeq (sCall 119 [(eP (pL 3 0)), (eP (pL 2 3)), (eP (p2 oIald (p1 (oGf 1 13 3) (pL 3 0)) (pL 1 5))), (eP (pL 1 6))])
  sRet0),
  (sSeq (sIf (cP (kL .ne (p2 oLand (pL 2 3) (pJ 7)) (pJ 0)))
  (sCall 84 [(eP (pL 3 0)), (eP (pI 4))]))
  (sSeq (sSt 1 7 (eP (p2 oIald (p1 (oGf 1 13 3) (pL 3 0)) (pL 1 5))))
  (sSeq (sCall 88 [(eP (pL 3 0)), (eCall 78 [(eP (pL 3 0)), (eCall 79 [(eP (pL 1 7)), (eCall 76 [(eP (pL 3 0)), (eP (pL 1 7))])])]), (eP (p1 (oGf 1 11 3) (pL 3 0))), (eP (pL 1 6))])
  (sSeq (sPfo (eP (pL 3 0)) 1 15 1 oSub (eP (pI 1)))
  (sSeq (sCall 85 [(eP (pL 3 0)), (eP (pI 4)), (eCall 77 [(eP (pL 3 0)), (eP (pL 1 7))])])
  (sSeq (sCall 86 [(eP (pL 3 0)), (eP (pL 2 3))])
  (sSeq (sCall 107 [(eP (pL 3 0)), (eCall 79 [(eP (pL 1 7)), (eCall 76 [(eP (pL 3 0)), (eP (pL 1 7))])])])
  sRet0))))))),
  (sSeq (sIf (cP (kL .ne (p2 oLand (pL 2 3) (pJ 7)) (pJ 0)))
  (sCall 84 [(eP (pL 3 0)), (eP (pI 4))]))
  (sSeq (sPfo (eP (pL 3 0)) 1 15 1 oSub (eP (pI 1)))
  (sSeq (sSt 2 3 (eCall 115 [(eP (pL 3 0)), (eP (p2 oIald (p1 (oGf 1 13 3) (pL 3 0)) (pL 1 5))), (eP (p1 oL2i (p2 oLshr (p2 oLald (p1 (oGf 1 11 3) (pL 3 0)) (pL 1 6)) (pI 3)))), (eP (p1 oL2i (p2 oLshr (pL 2 3) (pI 3))))]))
  (sBrk true)))),
  (sSeq (sCall 124 [(eP (pL 3 0)), (eP (pL 2 3)), (eP (pL 1 5))])
  sRet0)])))))))
theorem k_113 : b_113.1.1 x_113 (0, true, []) = some ((262, false, []), [], []) := by decide +kernel
/-- LazyForms$Machine.isDone -/
def i_114 : List (Nat × Instr × Nat) := [(0, .lload_n 1, 1), (1, .iconst 3, 1), (2, .lshr, 1), (3, .l2i, 1), (4, .istore 5, 2), (6, .aload_n 0, 1), (7, .dup, 1), (8, .getfield 127, 3), (11, .iconst 1, 1), (12, .iadd, 1), (13, .putfield 127, 3), (16, .lload_n 1, 1), (17, .ldc2_w 174, 3), (20, .land, 1), (21, .ldc2_w 186, 3), (24, .lcmp, 1), (25, .ifCond .ne 22, 3), (28, .aload_n 0, 1), (29, .getfield 25, 3), (32, .iload 5, 2), (34, .iconst 3, 1), (35, .iastore, 1), (36, .aload_n 0, 1), (37, .getfield 29, 3), (40, .iload 5, 2), (42, .lload_n 3, 1), (43, .lastore, 1), (44, .goto 35, 3), (47, .aload_n 0, 1), (48, .getfield 18, 3), (51, .iload 5, 2), (53, .iconst 5, 1), (54, .aload_n 0, 1), (55, .getfield 18, 3), (58, .iload 5, 2), (60, .laload, 1), (61, .invokestatic 192, 3), (64, .iconst 0, 1), (65, .invokestatic 176, 3), (68, .lastore, 1), (69, .aload_n 0, 1), (70, .getfield 18, 3), (73, .iload 5, 2), (75, .iconst 1, 1), (76, .iadd, 1), (77, .lload_n 3, 1), (78, .lastore, 1), (79, .return_, 1)]
def x_114 : zCx := (1, false, 0, zCode i_114, [])
def b_114 : zS := (sSeq (sSeq (sSt 1 5 (eP (p1 oL2i (p2 oLshr (pL 2 1) (pI 3)))))
  (sSeq (sPfo (eP (pL 3 0)) 1 20 1 oAdd (eP (pI 1)))
  (sIfE (cP (kL .eq (p2 oLand (pL 2 1) (pJ 7)) (pJ 3)))
  (sSeq (sSe 1 (eP (p1 (oGf 1 8 3) (pL 3 0))) (eP (pL 1 5)) (eP (pI 3)))
  (sSe 4 (eP (p1 (oGf 1 9 3) (pL 3 0))) (eP (pL 1 5)) (eP (pL 2 3))))
  (sSeq (sSe 4 (eP (p1 (oGf 1 4 3) (pL 3 0))) (eP (pL 1 5)) (eCall 92 [(eP (pI 5)), (eCall 89 [(eP (p2 oLald (p1 (oGf 1 4 3) (pL 3 0)) (pL 1 5)))]), (eP (pI 0))]))
  (sSe 4 (eP (p1 (oGf 1 4 3) (pL 3 0))) (eP (p2 oAdd (pL 1 5) (pI 1))) (eP (pL 2 3)))))))
  sRet0)
theorem k_114 : b_114.1.1 x_114 (0, true, []) = some ((80, false, []), [], []) := by decide +kernel
/-- LazyForms$Machine.result -/
def i_115 : List (Nat × Instr × Nat) := [(0, .iload_n 1, 1), (1, .tableswitch 76 17 20 #[31, 40, 49, 58], 31), (32, .iconst 0, 1), (33, .iload_n 2, 1), (34, .iload_n 3, 1), (35, .iadd, 1), (36, .i2l, 1), (37, .invokestatic 188, 3), (40, .lreturn, 1), (41, .iconst 0, 1), (42, .iload_n 2, 1), (43, .iload_n 3, 1), (44, .isub, 1), (45, .i2l, 1), (46, .invokestatic 188, 3), (49, .lreturn, 1), (50, .iconst 0, 1), (51, .iload_n 2, 1), (52, .iload_n 3, 1), (53, .imul, 1), (54, .i2l, 1), (55, .invokestatic 188, 3), (58, .lreturn, 1), (59, .iload_n 3, 1), (60, .ifCond .ne 8, 3), (63, .aload_n 0, 1), (64, .iconst 4, 1), (65, .invokevirtual 159, 3), (68, .iconst 0, 1), (69, .iload_n 2, 1), (70, .iload_n 3, 1), (71, .idiv, 1), (72, .i2l, 1), (73, .invokestatic 188, 3), (76, .lreturn, 1), (77, .iload_n 1, 1), (78, .bipush 21, 2), (80, .if_icmp .ne 16, 3), (83, .iload_n 2, 1), (84, .iload_n 3, 1), (85, .if_icmp .ge 7, 3), (88, .iconst 1, 1), (89, .goto 36, 3), (92, .iconst 0, 1), (93, .goto 32, 3), (96, .iload_n 1, 1), (97, .bipush 22, 2), (99, .if_icmp .ne 16, 3), (102, .iload_n 2, 1), (103, .iload_n 3, 1), (104, .if_icmp .gt 7, 3), (107, .iconst 1, 1), (108, .goto 17, 3), (111, .iconst 0, 1), (112, .goto 13, 3), (115, .iload_n 2, 1), (116, .iload_n 3, 1), (117, .if_icmp .ne 7, 3), (120, .iconst 1, 1), (121, .goto 4, 3), (124, .iconst 0, 1), (125, .istore 4, 2), (127, .iconst 1, 1), (128, .iload 4, 2), (130, .ifCond .eq 7, 3), (133, .lconst 0, 1), (134, .goto 4, 3), (137, .lconst 1, 1), (138, .invokestatic 188, 3), (141, .lreturn, 1)]
def x_115 : zCx := (1, false, 2, zCode i_115, [])
def b_115 : zS := (sBlk 4 (sSw (eP (pL 1 1)) [(17, 0), (18, 1), (19, 2), (20, 3)] 4 [(sRet 2 (eCall 0 [(eP (pI 0)), (eP (p1 oI2l (p2 oAdd (pL 1 2) (pL 1 3))))])),
  (sRet 2 (eCall 0 [(eP (pI 0)), (eP (p1 oI2l (p2 oSub (pL 1 2) (pL 1 3))))])),
  (sRet 2 (eCall 0 [(eP (pI 0)), (eP (p1 oI2l (p2 oMul (pL 1 2) (pL 1 3))))])),
  (sSeq (sIf (cP (k0 .eq (pL 1 3)))
  (sCall 84 [(eP (pL 3 0)), (eP (pI 4))]))
  (sRet 2 (eCall 0 [(eP (pI 0)), (eP (p1 oI2l (p2 oDiv (pL 1 2) (pL 1 3))))]))),
  (sSeq (sSt 1 4 (eP (pIte (kI .eq (pL 1 1) (pI 21)) (pB (kI .lt (pL 1 2) (pL 1 3))) (pIte (kI .eq (pL 1 1) (pI 22)) (pB (kI .le (pL 1 2) (pL 1 3))) (pB (kI .eq (pL 1 2) (pL 1 3)))))))
  (sRet 2 (eCall 0 [(eP (pI 1)), (eP (pIte (k0 .ne (pL 1 4)) (pJ 0) (pJ 1)))])))]))
theorem k_115 : b_115.1.1 x_115 (0, true, []) = some ((142, false, []), [], []) := by decide +kernel
/-- LazyForms$Machine.isUsed -/
def i_116 : List (Nat × Instr × Nat) := [(0, .lload_n 1, 1), (1, .iconst 3, 1), (2, .lshr, 1), (3, .l2i, 1), (4, .istore_n 3, 1), (5, .lload_n 1, 1), (6, .ldc2_w 174, 3), (9, .land, 1), (10, .ldc2_w 180, 3), (13, .lcmp, 1), (14, .ifCond .ne 7, 3), (17, .iconst 1, 1), (18, .goto 4, 3), (21, .iconst 0, 1), (22, .istore 4, 2), (24, .iload 4, 2), (26, .ifCond .eq 20, 3), (29, .aload_n 0, 1), (30, .getfield 18, 3), (33, .iload_n 3, 1), (34, .laload, 1), (35, .invokestatic 182, 3), (38, .iconst 4, 1), (39, .if_icmp .ne 7, 3), (42, .iconst 1, 1), (43, .goto 4, 3), (46, .iconst 0, 1), (47, .istore 5, 2), (49, .lload_n 1, 1), (50, .ldc2_w 174, 3), (53, .land, 1), (54, .ldc2_w 309, 3), (57, .lcmp, 1), (58, .ifCond .eq 31, 3), (61, .iload 5, 2), (63, .ifCond .ne 26, 3), (66, .iload 4, 2), (68, .ifCond .eq 16, 3), (71, .aload_n 0, 1), (72, .getfield 18, 3), (75, .iload_n 3, 1), (76, .laload, 1), (77, .invokestatic 182, 3), (80, .iconst 2, 1), (81, .if_icmp .eq 8, 3), (84, .aload_n 0, 1), (85, .iconst 4, 1), (86, .invokevirtual 159, 3), (89, .iload 5, 2), (91, .ifCond .eq 14, 3), (94, .aload_n 0, 1), (95, .getfield 18, 3), (98, .iload_n 3, 1), (99, .iconst 1, 1), (100, .iadd, 1), (101, .laload, 1), (102, .goto 4, 3), (105, .lload_n 1, 1), (106, .lstore 6, 2), (108, .iload 5, 2), (110, .ifCond .eq 17, 3), (113, .aload_n 0, 1), (114, .getfield 18, 3), (117, .iload_n 3, 1), (118, .laload, 1), (119, .invokestatic 192, 3), (122, .iconst 1, 1), (123, .isub, 1), (124, .goto 4, 3), (127, .iconst 0, 1), (128, .istore 8, 2), (130, .aload_n 0, 1), (131, .invokevirtual 311, 3), (134, .istore 9, 2), (136, .aload_n 0, 1), (137, .getfield 44, 3), (140, .aload_n 0, 1), (141, .getfield 106, 3), (144, .iconst 1, 1), (145, .isub, 1), (146, .iaload, 1), (147, .istore 10, 2), (149, .iload 9, 2), (151, .iconst 1, 1), (152, .isub, 1), (153, .istore 11, 2), (155, .iload 11, 2), (157, .ifCond .lt 32, 3), (160, .aload_n 0, 1), (161, .getfield 35, 3), (164, .iload 10, 2), (166, .iload 8, 2), (168, .iadd, 1), (169, .iload 11, 2), (171, .iadd, 1), (172, .aload_n 0, 1), (173, .getfield 35, 3), (176, .iload 10, 2), (178, .iload 11, 2), (180, .iadd, 1), (181, .laload, 1), (182, .lastore, 1), (183, .iinc 11 (-1), 3), (186, .goto (-31), 3), (189, .iconst 0, 1), (190, .istore 11, 2), (192, .iload 11, 2), (194, .iload 8, 2), (196, .if_icmp .ge 30, 3), (199, .aload_n 0, 1), (200, .getfield 35, 3), (203, .iload 10, 2), (205, .iload 11, 2), (207, .iadd, 1), (208, .aload_n 0, 1), (209, .getfield 18, 3), (212, .iload_n 3, 1), (213, .iconst 2, 1), (214, .iadd, 1), (215, .iload 11, 2), (217, .iadd, 1), (218, .laload, 1), (219, .lastore, 1), (220, .iinc 11 1, 3), (223, .goto (-31), 3), (226, .aload_n 0, 1), (227, .getfield 44, 3), (230, .aload_n 0, 1), (231, .getfield 106, 3), (234, .dup2, 1), (235, .iaload, 1), (236, .iload 8, 2), (238, .iadd, 1), (239, .iastore, 1), (240, .iload 9, 2), (242, .iload 8, 2), (244, .iadd, 1), (245, .istore 9, 2), (247, .lload 6, 2), (249, .ldc2_w 174, 3), (252, .land, 1), (253, .ldc2_w 309, 3), (256, .lcmp, 1), (257, .ifCond .ne 19, 3), (260, .aload_n 0, 1), (261, .getfield 62, 3), (264, .getfield 265, 3), (267, .lload 6, 2), (269, .iconst 3, 1), (270, .lshr, 1), (271, .l2i, 1), (272, .iaload, 1), (273, .goto 16, 3), (276, .aload_n 0, 1), (277, .getfield 18, 3), (280, .lload 6, 2), (282, .iconst 3, 1), (283, .lshr, 1), (284, .l2i, 1), (285, .laload, 1), (286, .invokestatic 195, 3), (289, .istore 11, 2), (291, .iload 9, 2), (293, .aload_n 0, 1), (294, .iload 11, 2), (296, .invokevirtual 222, 3), (299, .if_icmp .ge 14, 3), (302, .aload_n 0, 1), (303, .lload 6, 2), (305, .iload 9, 2), (307, .invokevirtual 315, 3), (310, .goto 13, 3), (313, .aload_n 0, 1), (314, .lload 6, 2), (316, .iload 11, 2), (318, .iload 9, 2), (320, .invokevirtual 318, 3), (323, .return_, 1)]
def x_116 : zCx := (1, false, 0, zCode i_116, [])
def b_116 : zS := (sSeq (sSeq (sSt 1 3 (eP (p1 oL2i (p2 oLshr (pL 2 1) (pI 3)))))
  (sSeq (sSt 1 4 (eP (pB (kL .eq (p2 oLand (pL 2 1) (pJ 7)) (pJ 4)))))
  (sSeq (sSt 1 5 (eB (cAnd (cP (k0 .ne (pL 1 4))) (cI .eq (eCall 90 [(eP (p2 oLald (p1 (oGf 1 4 3) (pL 3 0)) (pL 1 3)))]) (eP (pI 4))))))
  (sSeq (sIf (cAnd (cP (kAnd (kL .ne (p2 oLand (pL 2 1) (pJ 7)) (pJ 2)) (kNot (k0 .ne (pL 1 5))))) (cNot (cAnd (cP (k0 .ne (pL 1 4))) (cI .eq (eCall 90 [(eP (p2 oLald (p1 (oGf 1 4 3) (pL 3 0)) (pL 1 3)))]) (eP (pI 2))))))
  (sCall 84 [(eP (pL 3 0)), (eP (pI 4))]))
  (sSeq (sSt 2 6 (eP (pIte (k0 .ne (pL 1 5)) (p2 oLald (p1 (oGf 1 4 3) (pL 3 0)) (p2 oAdd (pL 1 3) (pI 1))) (pL 2 1))))
  (sSeq (sSt 1 8 (eIte (cP (k0 .ne (pL 1 5))) (e2 oSub (eCall 89 [(eP (p2 oLald (p1 (oGf 1 4 3) (pL 3 0)) (pL 1 3)))]) (eP (pI 1))) (eP (pI 0))))
  (sSeq (sSt 1 9 (eCall 112 [(eP (pL 3 0))]))
  (sSeq (sSt 1 10 (eP (p2 oIald (p1 (oGf 1 14 3) (pL 3 0)) (p2 oSub (p1 (oGf 1 15 1) (pL 3 0)) (pI 1)))))
  (sSeq (sBlk 11 (sSeq (sSt 1 11 (eP (p2 oSub (pL 1 9) (pI 1))))
  (sWh (cP (k0 .ge (pL 1 11)))
  (sSe 4 (eP (p1 (oGf 1 11 3) (pL 3 0))) (eP (p2 oAdd (p2 oAdd (pL 1 10) (pL 1 8)) (pL 1 11))) (eP (p2 oLald (p1 (oGf 1 11 3) (pL 3 0)) (p2 oAdd (pL 1 10) (pL 1 11)))))
  (sInc 11 (-1)))))
  (sSeq (sBlk 11 (sSeq (sSt 1 11 (eP (pI 0)))
  (sWh (cP (kI .lt (pL 1 11) (pL 1 8)))
  (sSe 4 (eP (p1 (oGf 1 11 3) (pL 3 0))) (eP (p2 oAdd (pL 1 10) (pL 1 11))) (eP (p2 oLald (p1 (oGf 1 4 3) (pL 3 0)) (p2 oAdd (p2 oAdd (pL 1 3) (pI 2)) (pL 1 11)))))
  (sInc 11 1))))
  (sSeq (sSeo (eP (p1 (oGf 1 14 3) (pL 3 0))) (eP (p1 (oGf 1 15 1) (pL 3 0))) oAdd (eP (pL 1 8)))
  (sSeq (sSt 1 9 (eP (p2 oAdd (pL 1 9) (pL 1 8))))
  (sSeq (sSt 1 11 (eIte (cP (kL .eq (p2 oLand (pL 2 6) (pJ 7)) (pJ 2))) (eP (p2 oIald (p1 (oGf 5 15 3) (p1 (oGf 1 2 3) (pL 3 0))) (p1 oL2i (p2 oLshr (pL 2 6) (pI 3))))) (eCall 91 [(eP (p2 oLald (p1 (oGf 1 4 3) (pL 3 0)) (p1 oL2i (p2 oLshr (pL 2 6) (pI 3)))))])))
  (sIfE (cI .lt (eP (pL 1 9)) (eCall 75 [(eP (pL 3 0)), (eP (pL 1 11))]))
  (sCall 117 [(eP (pL 3 0)), (eP (pL 2 6)), (eP (pL 1 9))])
  (sCall 118 [(eP (pL 3 0)), (eP (pL 2 6)), (eP (pL 1 11)), (eP (pL 1 9))])))))))))))))))
  sRet0)
theorem k_116 : b_116.1.1 x_116 (0, true, []) = some ((324, false, []), [], []) := by decide +kernel
/-- LazyForms$Machine.halves -/
def i_117 : List (Nat × Instr × Nat) := [(0, .aload_n 0, 1), (1, .lload_n 1, 1), (2, .putfield 156, 3), (5, .aload_n 0, 1), (6, .iconst 1, 1), (7, .iconst 0, 1), (8, .invokevirtual 280, 3), (11, .aload_n 0, 1), (12, .getfield 44, 3), (15, .aload_n 0, 1), (16, .getfield 106, 3), (19, .iconst 1, 1), (20, .isub, 1), (21, .iaload, 1), (22, .istore 4, 2), (24, .aload_n 0, 1), (25, .iconst 4, 1), (26, .iconst 1, 1), (27, .iload_n 3, 1), (28, .iadd, 1), (29, .iconst 0, 1), (30, .invokevirtual 240, 3), (33, .istore 5, 2), (35, .aload_n 0, 1), (36, .getfield 18, 3), (39, .iload 5, 2), (41, .iconst 1, 1), (42, .iadd, 1), (43, .aload_n 0, 1), (44, .getfield 156, 3), (47, .lastore, 1), (48, .iconst 0, 1), (49, .istore 6, 2), (51, .iload 6, 2), (53, .iload_n 3, 1), (54, .if_icmp .ge 31, 3), (57, .aload_n 0, 1), (58, .getfield 18, 3), (61, .iload 5, 2), (63, .iconst 2, 1), (64, .iadd, 1), (65, .iload 6, 2), (67, .iadd, 1), (68, .aload_n 0, 1), (69, .getfield 35, 3), (72, .iload 4, 2), (74, .iload 6, 2), (76, .iadd, 1), (77, .laload, 1), (78, .lastore, 1), (79, .iinc 6 1, 3), (82, .goto (-31), 3), (85, .aload_n 0, 1), (86, .lconst 0, 1), (87, .putfield 156, 3), (90, .aload_n 0, 1), (91, .dup, 1), (92, .getfield 106, 3), (95, .iconst 1, 1), (96, .isub, 1), (97, .putfield 106, 3), (100, .aload_n 0, 1), (101, .iconst 4, 1), (102, .iload 5, 2), (104, .i2l, 1), (105, .invokestatic 188, 3), (108, .invokevirtual 271, 3), (111, .return_, 1)]
def x_117 : zCx := (1, false, 0, zCode i_117, [])
def b_117 : zS := (sSeq (sSeq (sPf (eP (pL 3 0)) 1 28 2 (eP (pL 2 1)))
  (sSeq (sCall 97 [(eP (pL 3 0)), (eP (pI 1)), (eP (pI 0))])
  (sSeq (sSt 1 4 (eP (p2 oIald (p1 (oGf 1 14 3) (pL 3 0)) (p2 oSub (p1 (oGf 1 15 1) (pL 3 0)) (pI 1)))))
  (sSeq (sSt 1 5 (eCall 93 [(eP (pL 3 0)), (eP (pI 4)), (eP (p2 oAdd (pI 1) (pL 1 3))), (eP (pI 0))]))
  (sSeq (sSe 4 (eP (p1 (oGf 1 4 3) (pL 3 0))) (eP (p2 oAdd (pL 1 5) (pI 1))) (eP (p1 (oGf 1 28 2) (pL 3 0))))
  (sSeq (sBlk 6 (sSeq (sSt 1 6 (eP (pI 0)))
  (sWh (cP (kI .lt (pL 1 6) (pL 1 3)))
  (sSe 4 (eP (p1 (oGf 1 4 3) (pL 3 0))) (eP (p2 oAdd (p2 oAdd (pL 1 5) (pI 2)) (pL 1 6))) (eP (p2 oLald (p1 (oGf 1 11 3) (pL 3 0)) (p2 oAdd (pL 1 4) (pL 1 6)))))
  (sInc 6 1))))
  (sSeq (sPf (eP (pL 3 0)) 1 28 2 (eP (pJ 0)))
  (sSeq (sPfo (eP (pL 3 0)) 1 15 1 oSub (eP (pI 1)))
  (sCall 113 [(eP (pL 3 0)), (eCall 0 [(eP (pI 4)), (eP (p1 oI2l (pL 1 5)))])])))))))))
  sRet0)
theorem k_117 : b_117.1.1 x_117 (0, true, []) = some ((112, false, []), [], []) := by decide +kernel
/-- LazyForms$Machine.call -/
def i_118 : List (Nat × Instr × Nat) := [(0, .aload_n 0, 1), (1, .getfield 44, 3), (4, .aload_n 0, 1), (5, .getfield 106, 3), (8, .iconst 1, 1), (9, .isub, 1), (10, .iaload, 1), (11, .istore 5, 2), (13, .aload_n 0, 1), (14, .dup, 1), (15, .getfield 130, 3), (18, .iconst 1, 1), (19, .iadd, 1), (20, .putfield 130, 3), (23, .lload_n 1, 1), (24, .ldc2_w 174, 3), (27, .land, 1), (28, .ldc2_w 180, 3), (31, .lcmp, 1), (32, .ifCond .ne 22, 3), (35, .aload_n 0, 1), (36, .aload_n 0, 1), (37, .iload_n 3, 1), (38, .invokevirtual 210, 3), (41, .aload_n 0, 1), (42, .getfield 18, 3), (45, .lload_n 1, 1), (46, .iconst 3, 1), (47, .lshr, 1), (48, .l2i, 1), (49, .iconst 1, 1), (50, .iadd, 1), (51, .invokevirtual 274, 3), (54, .iconst 0, 1), (55, .istore 6, 2), (57, .iload 6, 2), (59, .aload_n 0, 1), (60, .iload_n 3, 1), (61, .invokevirtual 222, 3), (64, .if_icmp .ge 32, 3), (67, .aload_n 0, 1), (68, .getfield 32, 3), (71, .aload_n 0, 1), (72, .iload_n 3, 1), (73, .invokevirtual 217, 3), (76, .iload 6, 2), (78, .iadd, 1), (79, .aload_n 0, 1), (80, .getfield 35, 3), (83, .iload 5, 2), (85, .iload 6, 2), (87, .iadd, 1), (88, .laload, 1), (89, .lastore, 1), (90, .iinc 6 1, 3), (93, .goto (-36), 3), (96, .iload 4, 2), (98, .aload_n 0, 1), (99, .iload_n 3, 1), (100, .invokevirtual 222, 3), (103, .isub, 1), (104, .istore 6, 2), (106, .iload 6, 2), (108, .ifCond .ne 16, 3), (111, .aload_n 0, 1), (112, .dup, 1), (113, .getfield 106, 3), (116, .iconst 1, 1), (117, .isub, 1), (118, .putfield 106, 3), (121, .goto 59, 3), (124, .iconst 0, 1), (125, .istore 7, 2), (127, .iload 7, 2), (129, .iload 6, 2), (131, .if_icmp .ge 35, 3), (134, .aload_n 0, 1), (135, .getfield 35, 3), (138, .iload 5, 2), (140, .iload 7, 2), (142, .iadd, 1), (143, .aload_n 0, 1), (144, .getfield 35, 3), (147, .iload 5, 2), (149, .aload_n 0, 1), (150, .iload_n 3, 1), (151, .invokevirtual 222, 3), (154, .iadd, 1), (155, .iload 7, 2), (157, .iadd, 1), (158, .laload, 1), (159, .lastore, 1), (160, .iinc 7 1, 3), (163, .goto (-36), 3), (166, .aload_n 0, 1), (167, .getfield 44, 3), (170, .aload_n 0, 1), (171, .getfield 106, 3), (174, .iload 5, 2), (176, .iload 6, 2), (178, .iadd, 1), (179, .iastore, 1), (180, .aload_n 0, 1), (181, .iload_n 3, 1), (182, .aload_n 0, 1), (183, .iload_n 3, 1), (184, .invokevirtual 215, 3), (187, .invokestatic 93, 3), (190, .invokevirtual 268, 3), (193, .return_, 1)]
def x_118 : zCx := (1, false, 0, zCode i_118, [])
def b_118 : zS := (sSeq (sSeq (sSt 1 5 (eP (p2 oIald (p1 (oGf 1 14 3) (pL 3 0)) (p2 oSub (p1 (oGf 1 15 1) (pL 3 0)) (pI 1)))))
  (sSeq (sPfo (eP (pL 3 0)) 1 21 1 oAdd (eP (pI 1)))
  (sSeq (sIf (cP (kL .eq (p2 oLand (pL 2 1) (pJ 7)) (pJ 4)))
  (sCall 88 [(eP (pL 3 0)), (eCall 78 [(eP (pL 3 0)), (eP (pL 1 3))]), (eP (p1 (oGf 1 4 3) (pL 3 0))), (eP (p2 oAdd (p1 oL2i (p2 oLshr (pL 2 1) (pI 3))) (pI 1)))]))
  (sSeq (sBlk 6 (sSeq (sSt 1 6 (eP (pI 0)))
  (sWh (cI .lt (eP (pL 1 6)) (eCall 75 [(eP (pL 3 0)), (eP (pL 1 3))]))
  (sSe 4 (eP (p1 (oGf 1 10 3) (pL 3 0))) (e2 oAdd (eCall 76 [(eP (pL 3 0)), (eP (pL 1 3))]) (eP (pL 1 6))) (eP (p2 oLald (p1 (oGf 1 11 3) (pL 3 0)) (p2 oAdd (pL 1 5) (pL 1 6)))))
  (sInc 6 1))))
  (sSeq (sSt 1 6 (e2 oSub (eP (pL 1 4)) (eCall 75 [(eP (pL 3 0)), (eP (pL 1 3))])))
  (sSeq (sIfE (cP (k0 .eq (pL 1 6)))
  (sPfo (eP (pL 3 0)) 1 15 1 oSub (eP (pI 1)))
  (sSeq (sBlk 7 (sSeq (sSt 1 7 (eP (pI 0)))
  (sWh (cP (kI .lt (pL 1 7) (pL 1 6)))
  (sSe 4 (eP (p1 (oGf 1 11 3) (pL 3 0))) (eP (p2 oAdd (pL 1 5) (pL 1 7))) (e2 oLald (eP (p1 (oGf 1 11 3) (pL 3 0))) (e2 oAdd (e2 oAdd (eP (pL 1 5)) (eCall 75 [(eP (pL 3 0)), (eP (pL 1 3))])) (eP (pL 1 7)))))
  (sInc 7 1))))
  (sSe 1 (eP (p1 (oGf 1 14 3) (pL 3 0))) (eP (p1 (oGf 1 15 1) (pL 3 0))) (eP (p2 oAdd (pL 1 5) (pL 1 6))))))
  (sCall 107 [(eP (pL 3 0)), (eCall 79 [(eP (pL 1 3)), (eCall 77 [(eP (pL 3 0)), (eP (pL 1 3))])])])))))))
  sRet0)
theorem k_118 : b_118.1.1 x_118 (0, true, []) = some ((194, false, []), [], []) := by decide +kernel
/-- LazyForms$Machine.choose -/
def i_119 : List (Nat × Instr × Nat) := [(0, .iload_n 3, 1), (1, .aload_n 0, 1), (2, .iload_n 3, 1), (3, .invokevirtual 217, 3), (6, .invokestatic 93, 3), (9, .istore 5, 2), (11, .aload_n 0, 1), (12, .aload_n 0, 1), (13, .iload 5, 2), (15, .invokevirtual 210, 3), (18, .aload_n 0, 1), (19, .getfield 35, 3), (22, .iload 4, 2), (24, .invokevirtual 274, 3), (27, .aload_n 0, 1), (28, .dup, 1), (29, .getfield 106, 3), (32, .iconst 1, 1), (33, .isub, 1), (34, .putfield 106, 3), (37, .lload_n 1, 1), (38, .ldc2_w 174, 3), (41, .land, 1), (42, .ldc2_w 180, 3), (45, .lcmp, 1), (46, .ifCond .ne 23, 3), (49, .aload_n 0, 1), (50, .getfield 18, 3), (53, .lload_n 1, 1), (54, .iconst 3, 1), (55, .lshr, 1), (56, .l2i, 1), (57, .laload, 1), (58, .invokestatic 182, 3), (61, .iconst 3, 1), (62, .if_icmp .ne 7, 3), (65, .iconst 1, 1), (66, .goto 4, 3), (69, .iconst 0, 1), (70, .istore 6, 2), (72, .lload_n 1, 1), (73, .iconst 3, 1), (74, .lshr, 1), (75, .l2i, 1), (76, .istore 7, 2), (78, .iload 5, 2), (80, .istore 8, 2), (82, .iload 8, 2), (84, .iconst (-1), 1), (85, .if_icmp .eq 270, 3), (88, .aload_n 0, 1), (89, .iload 8, 2), (91, .invokevirtual 69, 3), (94, .getfield 278, 3), (97, .iload 8, 2), (99, .sipush 4096, 3), (102, .irem, 1), (103, .iaload, 1), (104, .istore 9, 2), (106, .aload_n 0, 1), (107, .iload 8, 2), (109, .invokevirtual 222, 3), (112, .tableswitch 216 0 2 #[28, 172, 192], 28), (140, .iload 6, 2), (142, .ifCond .ne 13, 3), (145, .lload_n 1, 1), (146, .ldc2_w 174, 3), (149, .land, 1), (150, .lconst 1, 1), (151, .lcmp, 1), (152, .ifCond .ne 192, 3), (155, .iload 6, 2), (157, .ifCond .eq 16, 3), (160, .aload_n 0, 1), (161, .getfield 18, 3), (164, .iload 7, 2), (166, .laload, 1), (167, .invokestatic 195, 3), (170, .goto 5, 3), (173, .iload 7, 2), (175, .iload 9, 2), (177, .if_icmp .ne 167, 3), (180, .aload_n 0, 1), (181, .iload 8, 2), (183, .invokevirtual 321, 3), (186, .iload 6, 2), (188, .ifCond .eq 16, 3), (191, .aload_n 0, 1), (192, .getfield 18, 3), (195, .iload 7, 2), (197, .laload, 1), (198, .invokestatic 192, 3), (201, .goto 4, 3), (204, .iconst 0, 1), (205, .if_icmp .eq 6, 3), (208, .goto 136, 3), (211, .iload 7, 2), (213, .iconst 1, 1), (214, .iadd, 1), (215, .istore 10, 2), (217, .iload 8, 2), (219, .aload_n 0, 1), (220, .iload 8, 2), (222, .invokevirtual 217, 3), (225, .invokestatic 93, 3), (228, .istore 11, 2), (230, .iload 11, 2), (232, .iconst (-1), 1), (233, .if_icmp .eq 48, 3), (236, .aload_n 0, 1), (237, .iload 11, 2), (239, .invokevirtual 222, 3), (242, .ifCond .lt 25, 3), (245, .aload_n 0, 1), (246, .getfield 32, 3), (249, .aload_n 0, 1), (250, .iload 11, 2), (252, .invokevirtual 222, 3), (255, .aload_n 0, 1), (256, .aload_n 0, 1), (257, .getfield 18, 3), (260, .iload 10, 2), (262, .laload, 1), (263, .invokevirtual 237, 3), (266, .lastore, 1), (267, .iinc 10 1, 3), (270, .aload_n 0, 1), (271, .iload 11, 2), (273, .invokevirtual 227, 3), (276, .istore 11, 2), (278, .goto (-48), 3), (281, .goto 47, 3), (284, .lload_n 1, 1), (285, .ldc2_w 174, 3), (288, .land, 1), (289, .lconst 0, 1), (290, .lcmp, 1), (291, .ifCond .ne 53, 3), (294, .iload 7, 2), (296, .iload 9, 2), (298, .if_icmp .eq 30, 3), (301, .goto 43, 3), (304, .aload_n 0, 1), (305, .getfield 32, 3), (308, .aload_n 0, 1), (309, .iload 8, 2), (311, .aload_n 0, 1), (312, .iload 8, 2), (314, .invokevirtual 217, 3), (317, .invokestatic 93, 3), (320, .invokevirtual 222, 3), (323, .lload_n 1, 1), (324, .lastore, 1), (325, .goto 3, 3), (328, .aload_n 0, 1), (329, .iload 8, 2), (331, .aload_n 0, 1), (332, .iload 8, 2), (334, .invokevirtual 215, 3), (337, .invokestatic 93, 3), (340, .invokevirtual 268, 3), (343, .return_, 1), (344, .aload_n 0, 1), (345, .iload 8, 2), (347, .invokevirtual 227, 3), (350, .istore 8, 2), (352, .goto (-270), 3), (355, .aload_n 0, 1), (356, .iconst 4, 1), (357, .invokevirtual 159, 3), (360, .return_, 1)]
def x_119 : zCx := (1, false, 0, zCode i_119, [])
def b_119 : zS := (sSeq (sSeq (sSt 1 5 (eCall 79 [(eP (pL 1 3)), (eCall 76 [(eP (pL 3 0)), (eP (pL 1 3))])]))
  (sSeq (sCall 88 [(eP (pL 3 0)), (eCall 78 [(eP (pL 3 0)), (eP (pL 1 5))]), (eP (p1 (oGf 1 11 3) (pL 3 0))), (eP (pL 1 4))])
  (sSeq (sPfo (eP (pL 3 0)) 1 15 1 oSub (eP (pI 1)))
  (sSeq (sSt 1 6 (eB (cAnd (cP (kL .eq (p2 oLand (pL 2 1) (pJ 7)) (pJ 4))) (cI .eq (eCall 90 [(eP (p2 oLald (p1 (oGf 1 4 3) (pL 3 0)) (p1 oL2i (p2 oLshr (pL 2 1) (pI 3)))))]) (eP (pI 3))))))
  (sSeq (sSt 1 7 (eP (p1 oL2i (p2 oLshr (pL 2 1) (pI 3)))))
  (sSeq (sBlk 8 (sSeq (sSt 1 8 (eP (pL 1 5)))
  (sWh (cP (kI .ne (pL 1 8) (pI (-1))))
  (sBlk 9 (sSeq (sSt 1 9 (e2 oIald (e1 (oGf 5 1 3) (eCall 73 [(eP (pL 3 0)), (eP (pL 1 8))])) (eP (p2 oRem (pL 1 8) (pI 4096)))))
  (sSeq (sBlk 10 (sSw (eCall 75 [(eP (pL 3 0)), (eP (pL 1 8))]) [(0, 0), (1, 1), (2, 2)] 3 [(sSeq (sIf (cOr (cOr (cP (kAnd (kNot (k0 .ne (pL 1 6))) (kL .ne (p2 oLand (pL 2 1) (pJ 7)) (pJ 1)))) (cI .ne (eIte (cP (k0 .ne (pL 1 6))) (eCall 91 [(eP (p2 oLald (p1 (oGf 1 4 3) (pL 3 0)) (pL 1 7)))]) (eP (pL 1 7))) (eP (pL 1 9)))) (cI .ne (eCall 120 [(eP (pL 3 0)), (eP (pL 1 8))]) (eIte (cP (k0 .ne (pL 1 6))) (eCall 89 [(eP (p2 oLald (p1 (oGf 1 4 3) (pL 3 0)) (pL 1 7)))]) (eP (pI 0)))))
  (sCnt true))
  (sSeq (sSt 1 10 (eP (p2 oAdd (pL 1 7) (pI 1))))
  (sSeq (sBlk 11 (sSeq (sSt 1 11 (eCall 79 [(eP (pL 1 8)), (eCall 76 [(eP (pL 3 0)), (eP (pL 1 8))])]))
  (sWh (cP (kI .ne (pL 1 11) (pI (-1))))
  (sSeq (sIf (c0 .ge (eCall 75 [(eP (pL 3 0)), (eP (pL 1 11))]))
  (sSe 4 (eP (p1 (oGf 1 10 3) (pL 3 0))) (eCall 75 [(eP (pL 3 0)), (eP (pL 1 11))]) (eCall 94 [(eP (pL 3 0)), (eP (p2 oLald (p1 (oGf 1 4 3) (pL 3 0)) (pL 1 10)))])))
  (sInc 10 1))
  (sSt 1 11 (eCall 80 [(eP (pL 3 0)), (eP (pL 1 11))])))))
  (sBrk true)))),
  (sSeq (sIf (cP (kOr (kL .ne (p2 oLand (pL 2 1) (pJ 7)) (pJ 0)) (kI .ne (pL 1 7) (pL 1 9))))
  (sCnt true))
  (sBrk false)),
  (sSeq (sSe 4 (eP (p1 (oGf 1 10 3) (pL 3 0))) (eCall 75 [(eP (pL 3 0)), (eCall 79 [(eP (pL 1 8)), (eCall 76 [(eP (pL 3 0)), (eP (pL 1 8))])])]) (eP (pL 2 1)))
  (sBrk true)),
  (sBrk false)]))
  (sSeq (sCall 107 [(eP (pL 3 0)), (eCall 79 [(eP (pL 1 8)), (eCall 77 [(eP (pL 3 0)), (eP (pL 1 8))])])])
  sRet0))))
  (sSt 1 8 (eCall 80 [(eP (pL 3 0)), (eP (pL 1 8))])))))
  (sCall 84 [(eP (pL 3 0)), (eP (pI 4))])))))))
  sRet0)
theorem k_119 : b_119.1.1 x_119 (0, true, []) = some ((361, false, []), [], []) := by decide +kernel
