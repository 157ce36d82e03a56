/-- LazyFormsModel.shell -/
def i_200 : List (Nat × Instr × Nat) := [(0, .aload_n 0, 1), (1, .getfield 80, 3), (4, .iload_n 1, 1), (5, .iaload, 1), (6, .iconst 1, 1), (7, .if_icmp .ne 37, 3), (10, .iconst 0, 1), (11, .istore_n 2, 1), (12, .aload_n 0, 1), (13, .getfield 86, 3), (16, .iload_n 1, 1), (17, .iaload, 1), (18, .istore_n 3, 1), (19, .iload_n 3, 1), (20, .ifCond .lt 16, 3), (23, .iinc 2 1, 3), (26, .aload_n 0, 1), (27, .getfield 92, 3), (30, .iload_n 3, 1), (31, .iaload, 1), (32, .istore_n 3, 1), (33, .goto (-14), 3), (36, .aload_n 0, 1), (37, .iconst 5, 1), (38, .iload_n 1, 1), (39, .iload_n 2, 1), (40, .invokevirtual 453, 3), (43, .ireturn, 1), (44, .aload_n 0, 1), (45, .aload_n 0, 1), (46, .getfield 80, 3), (49, .iload_n 1, 1), (50, .iaload, 1), (51, .iconst 3, 1), (52, .if_icmp .eq 14, 3), (55, .aload_n 0, 1), (56, .getfield 80, 3), (59, .iload_n 1, 1), (60, .iaload, 1), (61, .bipush 8, 2), (63, .if_icmp .ne 7, 3), (66, .iconst 4, 1), (67, .goto 4, 3), (70, .iconst 1, 1), (71, .iload_n 1, 1), (72, .iconst 0, 1), (73, .invokevirtual 453, 3), (76, .ireturn, 1)]
def x_200 : zCx := (6, false, 1, zCode i_200, [])
def b_200 : zS := (sSeq (sIf (cP (kI .eq (p2 oIald (p1 (oGf 6 11 3) (pL 3 0)) (pL 1 1)) (pI 1)))
  (sBlk 2 (sSeq (sSt 1 2 (eP (pI 0)))
  (sSeq (sBlk 3 (sSeq (sSt 1 3 (eP (p2 oIald (p1 (oGf 6 13 3) (pL 3 0)) (pL 1 1))))
  (sWh (cP (k0 .ge (pL 1 3)))
  (sInc 2 1)
  (sSt 1 3 (eP (p2 oIald (p1 (oGf 6 15 3) (pL 3 0)) (pL 1 3)))))))
  (sRet 1 (eCall 196 [(eP (pL 3 0)), (eP (pI 5)), (eP (pL 1 1)), (eP (pL 1 2))]))))))
  (sRet 1 (eCall 196 [(eP (pL 3 0)), (eP (pIte (kOr (kI .eq (p2 oIald (p1 (oGf 6 11 3) (pL 3 0)) (pL 1 1)) (pI 3)) (kI .eq (p2 oIald (p1 (oGf 6 11 3) (pL 3 0)) (pL 1 1)) (pI 8))) (pI 4) (pI 1))), (eP (pL 1 1)), (eP (pI 0))])))
theorem k_200 : b_200.1.1 x_200 (0, true, []) = some ((77, false, []), [], []) := by decide +kernel
/-- LazyFormsModel.fill -/
def i_201 : List (Nat × Instr × Nat) := [(0, .aload_n 0, 1), (1, .getfield 341, 3), (4, .iload_n 1, 1), (5, .iaload, 1), (6, .istore_n 2, 1), (7, .iconst 0, 1), (8, .istore_n 3, 1), (9, .iload_n 3, 1), (10, .bipush 16, 2), (12, .if_icmp .ge 54, 3), (15, .aload_n 0, 1), (16, .getfield 314, 3), (19, .bipush 16, 2), (21, .iload_n 1, 1), (22, .imul, 1), (23, .iload_n 3, 1), (24, .iadd, 1), (25, .aload_n 0, 1), (26, .getfield 303, 3), (29, .iload_n 1, 1), (30, .iaload, 1), (31, .iconst 5, 1), (32, .if_icmp .eq 26, 3), (35, .aload_n 0, 1), (36, .getfield 98, 3), (39, .iload_n 2, 1), (40, .iaload, 1), (41, .iload_n 3, 1), (42, .ishr, 1), (43, .iconst 1, 1), (44, .iand, 1), (45, .iconst 1, 1), (46, .if_icmp .ne 12, 3), (49, .aload_n 0, 1), (50, .getfield 372, 3), (53, .iload_n 3, 1), (54, .laload, 1), (55, .goto 4, 3), (58, .lconst 0, 1), (59, .lastore, 1), (60, .iinc 3 1, 3), (63, .goto (-54), 3), (66, .aload_n 0, 1), (67, .getfield 303, 3), (70, .iload_n 1, 1), (71, .iaload, 1), (72, .iconst 5, 1), (73, .if_icmp .eq 4, 3), (76, .return_, 1), (77, .aload_n 0, 1), (78, .getfield 341, 3), (81, .iload_n 1, 1), (82, .aload_n 0, 1), (83, .getfield 83, 3), (86, .iload_n 2, 1), (87, .iaload, 1), (88, .iastore, 1), (89, .iconst 0, 1), (90, .istore_n 3, 1), (91, .aload_n 0, 1), (92, .getfield 86, 3), (95, .iload_n 2, 1), (96, .iaload, 1), (97, .istore 4, 2), (99, .iload 4, 2), (101, .ifCond .lt 40, 3), (104, .aload_n 0, 1), (105, .getfield 314, 3), (108, .bipush 16, 2), (110, .iload_n 1, 1), (111, .imul, 1), (112, .iload_n 3, 1), (113, .iadd, 1), (114, .aload_n 0, 1), (115, .aload_n 0, 1), (116, .getfield 83, 3), (119, .iload 4, 2), (121, .iaload, 1), (122, .invokevirtual 457, 3), (125, .lastore, 1), (126, .iinc 3 1, 3), (129, .aload_n 0, 1), (130, .getfield 92, 3), (133, .iload 4, 2), (135, .iaload, 1), (136, .istore 4, 2), (138, .goto (-39), 3), (141, .return_, 1)]
def x_201 : zCx := (6, false, 0, zCode i_201, [])
def b_201 : zS := (sSeq (sSeq (sSt 1 2 (eP (p2 oIald (p1 (oGf 6 38 3) (pL 3 0)) (pL 1 1))))
  (sSeq (sBlk 3 (sSeq (sSt 1 3 (eP (pI 0)))
  (sWh (cP (kI .lt (pL 1 3) (pI 16)))
  (sSe 4 (eP (p1 (oGf 6 40 3) (pL 3 0))) (eP (p2 oAdd (p2 oMul (pI 16) (pL 1 1)) (pL 1 3))) (eP (pIte (kAnd (kI .ne (p2 oIald (p1 (oGf 6 37 3) (pL 3 0)) (pL 1 1)) (pI 5)) (kI .eq (p2 oAnd (p2 oShr (p2 oIald (p1 (oGf 6 17 3) (pL 3 0)) (pL 1 2)) (pL 1 3)) (pI 1)) (pI 1))) (p2 oLald (p1 (oGf 6 58 3) (pL 3 0)) (pL 1 3)) (pJ 0))))
  (sInc 3 1))))
  (sSeq (sIf (cP (kI .ne (p2 oIald (p1 (oGf 6 37 3) (pL 3 0)) (pL 1 1)) (pI 5)))
  sRet0)
  (sSeq (sSe 1 (eP (p1 (oGf 6 38 3) (pL 3 0))) (eP (pL 1 1)) (eP (p2 oIald (p1 (oGf 6 12 3) (pL 3 0)) (pL 1 2))))
  (sSeq (sSt 1 3 (eP (pI 0)))
  (sBlk 4 (sSeq (sSt 1 4 (eP (p2 oIald (p1 (oGf 6 13 3) (pL 3 0)) (pL 1 2))))
  (sWh (cP (k0 .ge (pL 1 4)))
  (sSeq (sSe 4 (eP (p1 (oGf 6 40 3) (pL 3 0))) (eP (p2 oAdd (p2 oMul (pI 16) (pL 1 1)) (pL 1 3))) (eCall 168 [(eP (pL 3 0)), (eP (p2 oIald (p1 (oGf 6 12 3) (pL 3 0)) (pL 1 4)))]))
  (sInc 3 1))
  (sSt 1 4 (eP (p2 oIald (p1 (oGf 6 15 3) (pL 3 0)) (pL 1 4))))))))))))
  sRet0)
theorem k_201 : b_201.1.1 x_201 (0, true, []) = some ((142, false, []), [], []) := by decide +kernel
/-- LazyFormsModel.step -/
def i_202 : List (Nat × Instr × Nat) := [(0, .aload_n 0, 1), (1, .dup, 1), (2, .getfield 465, 3), (5, .iconst 1, 1), (6, .iadd, 1), (7, .putfield 465, 3), (10, .aload_n 0, 1), (11, .getfield 375, 3), (14, .ifCond .eq 24, 3), (17, .aload_n 0, 1), (18, .iconst (-1), 1), (19, .putfield 418, 3), (22, .aload_n 0, 1), (23, .iconst 0, 1), (24, .putfield 375, 3), (27, .aload_n 0, 1), (28, .aload_n 0, 1), (29, .getfield 378, 3), (32, .invokevirtual 468, 3), (35, .goto 28, 3), (38, .aload_n 0, 1), (39, .aload_n 0, 1), (40, .getfield 95, 3), (43, .aload_n 0, 1), (44, .getfield 462, 3), (47, .iaload, 1), (48, .sipush 2000, 3), (51, .irem, 1), (52, .putfield 418, 3), (55, .aload_n 0, 1), (56, .aload_n 0, 1), (57, .getfield 462, 3), (60, .invokevirtual 471, 3), (63, .aload_n 0, 1), (64, .getfield 415, 3), (67, .iconst 1, 1), (68, .if_icmp .ne 4, 3), (71, .return_, 1), (72, .aload_n 0, 1), (73, .iconst 0, 1), (74, .putfield 350, 3), (77, .aload_n 0, 1), (78, .iconst 0, 1), (79, .putfield 375, 3), (82, .return_, 1)]
def x_202 : zCx := (6, false, 0, zCode i_202, [])
def b_202 : zS := (sSeq (sSeq (sPfo (eP (pL 3 0)) 6 66 1 oAdd (eP (pI 1)))
  (sSeq (sIfE (cP (k0 .ne (p1 (oGf 6 56 4) (pL 3 0))))
  (sSeq (sPf (eP (pL 3 0)) 6 70 1 (eP (pI (-1))))
  (sSeq (sPf (eP (pL 3 0)) 6 56 4 (eP (pI 0)))
  (sCall 205 [(eP (pL 3 0)), (eP (p1 (oGf 6 59 2) (pL 3 0)))])))
  (sSeq (sPf (eP (pL 3 0)) 6 70 1 (eP (p2 oRem (p2 oIald (p1 (oGf 6 16 3) (pL 3 0)) (p1 (oGf 6 57 1) (pL 3 0))) (pI 2000))))
  (sCall 204 [(eP (pL 3 0)), (eP (p1 (oGf 6 57 1) (pL 3 0)))])))
  (sSeq (sIf (cP (kI .eq (p1 (oGf 6 68 1) (pL 3 0)) (pI 1)))
  sRet0)
  (sSeq (sPf (eP (pL 3 0)) 6 49 1 (eP (pI 0)))
  (sPf (eP (pL 3 0)) 6 56 4 (eP (pI 0)))))))
  sRet0)
theorem k_202 : b_202.1.1 x_202 (0, true, []) = some ((83, false, []), [], []) := by decide +kernel
/-- LazyFormsModel.keep -/
def i_203 : List (Nat × Instr × Nat) := [(0, .aload_n 0, 1), (1, .getfield 362, 3), (4, .iload_n 1, 1), (5, .iload_n 2, 1), (6, .iastore, 1), (7, .iconst 0, 1), (8, .istore_n 3, 1), (9, .iload_n 3, 1), (10, .bipush 16, 2), (12, .if_icmp .ge 26, 3), (15, .aload_n 0, 1), (16, .getfield 365, 3), (19, .bipush 16, 2), (21, .iload_n 1, 1), (22, .imul, 1), (23, .iload_n 3, 1), (24, .iadd, 1), (25, .aload_n 0, 1), (26, .getfield 372, 3), (29, .iload_n 3, 1), (30, .laload, 1), (31, .lastore, 1), (32, .iinc 3 1, 3), (35, .goto (-26), 3), (38, .return_, 1)]
def x_203 : zCx := (6, false, 0, zCode i_203, [])
def b_203 : zS := (sSeq (sSeq (sSe 1 (eP (p1 (oGf 6 54 3) (pL 3 0))) (eP (pL 1 1)) (eP (pL 1 2)))
  (sBlk 3 (sSeq (sSt 1 3 (eP (pI 0)))
  (sWh (cP (kI .lt (pL 1 3) (pI 16)))
  (sSe 4 (eP (p1 (oGf 6 55 3) (pL 3 0))) (eP (p2 oAdd (p2 oMul (pI 16) (pL 1 1)) (pL 1 3))) (eP (p2 oLald (p1 (oGf 6 58 3) (pL 3 0)) (pL 1 3))))
  (sInc 3 1)))))
  sRet0)
theorem k_203 : b_203.1.1 x_203 (0, true, []) = some ((39, false, []), [], []) := by decide +kernel
/-- LazyFormsModel.workOut -/
def i_204 : List (Nat × Instr × Nat) := [(0, .aload_n 0, 1), (1, .getfield 80, 3), (4, .iload_n 1, 1), (5, .iaload, 1), (6, .tableswitch 151 2 7 #[38, 151, 50, 58, 98, 143], 38), (44, .aload_n 0, 1), (45, .aload_n 0, 1), (46, .iload_n 1, 1), (47, .invokevirtual 433, 3), (50, .invokevirtual 468, 3), (53, .goto 132, 3), (56, .aload_n 0, 1), (57, .iload_n 1, 1), (58, .invokevirtual 474, 3), (61, .goto 124, 3), (64, .aload_n 0, 1), (65, .iconst 3, 1), (66, .iload_n 1, 1), (67, .iconst 0, 1), (68, .invokevirtual 476, 3), (71, .ifCond .ne 4, 3), (74, .return_, 1), (75, .aload_n 0, 1), (76, .aload_n 0, 1), (77, .getfield 350, 3), (80, .iconst 1, 1), (81, .isub, 1), (82, .aload_n 0, 1), (83, .getfield 89, 3), (86, .iload_n 1, 1), (87, .iaload, 1), (88, .invokevirtual 479, 3), (91, .aload_n 0, 1), (92, .aload_n 0, 1), (93, .getfield 83, 3), (96, .iload_n 1, 1), (97, .iaload, 1), (98, .putfield 462, 3), (101, .goto 84, 3), (104, .aload_n 0, 1), (105, .iconst 4, 1), (106, .iload_n 1, 1), (107, .iconst 0, 1), (108, .invokevirtual 476, 3), (111, .ifCond .ne 4, 3), (114, .return_, 1), (115, .aload_n 0, 1), (116, .aload_n 0, 1), (117, .getfield 350, 3), (120, .iconst 1, 1), (121, .isub, 1), (122, .aload_n 0, 1), (123, .getfield 98, 3), (126, .aload_n 0, 1), (127, .getfield 86, 3), (130, .iload_n 1, 1), (131, .iaload, 1), (132, .iaload, 1), (133, .invokevirtual 479, 3), (136, .aload_n 0, 1), (137, .aload_n 0, 1), (138, .getfield 83, 3), (141, .iload_n 1, 1), (142, .iaload, 1), (143, .putfield 462, 3), (146, .goto 39, 3), (149, .aload_n 0, 1), (150, .iload_n 1, 1), (151, .invokevirtual 482, 3), (154, .goto 31, 3), (157, .aload_n 0, 1), (158, .aload_n 0, 1), (159, .getfield 101, 3), (162, .iload_n 1, 1), (163, .iaload, 1), (164, .aload_n 0, 1), (165, .getfield 98, 3), (168, .iload_n 1, 1), (169, .iaload, 1), (170, .invokevirtual 459, 3), (173, .ifCond .eq 12, 3), (176, .aload_n 0, 1), (177, .aload_n 0, 1), (178, .iload_n 1, 1), (179, .invokevirtual 436, 3), (182, .invokevirtual 484, 3), (185, .return_, 1)]
def x_204 : zCx := (6, false, 0, zCode i_204, [])
def b_204 : zS := (sSeq (sSw (eP (p2 oIald (p1 (oGf 6 11 3) (pL 3 0)) (pL 1 1))) [(2, 0), (4, 1), (5, 2), (6, 3), (7, 4)] 5 [(sSeq (sCall 205 [(eP (pL 3 0)), (eCall 140 [(eP (pL 3 0)), (eP (pL 1 1))])])
  (sBrk true)),
  (sSeq (sCall 159 [(eP (pL 3 0)), (eP (pL 1 1))])
  (sBrk true)),
  (sSeq (sIf (cNot (c0 .ne (eCall 198 [(eP (pL 3 0)), (eP (pI 3)), (eP (pL 1 1)), (eP (pI 0))])))
  sRet0)
  (sSeq (sCall 203 [(eP (pL 3 0)), (eP (p2 oSub (p1 (oGf 6 49 1) (pL 3 0)) (pI 1))), (eP (p2 oIald (p1 (oGf 6 14 3) (pL 3 0)) (pL 1 1)))])
  (sSeq (sPf (eP (pL 3 0)) 6 57 1 (eP (p2 oIald (p1 (oGf 6 12 3) (pL 3 0)) (pL 1 1))))
  (sBrk true)))),
  (sSeq (sIf (cNot (c0 .ne (eCall 198 [(eP (pL 3 0)), (eP (pI 4)), (eP (pL 1 1)), (eP (pI 0))])))
  sRet0)
  (sSeq (sCall 203 [(eP (pL 3 0)), (eP (p2 oSub (p1 (oGf 6 49 1) (pL 3 0)) (pI 1))), (eP (p2 oIald (p1 (oGf 6 17 3) (pL 3 0)) (p2 oIald (p1 (oGf 6 13 3) (pL 3 0)) (pL 1 1))))])
  (sSeq (sPf (eP (pL 3 0)) 6 57 1 (eP (p2 oIald (p1 (oGf 6 12 3) (pL 3 0)) (pL 1 1))))
  (sBrk true)))),
  (sSeq (sCall 166 [(eP (pL 3 0)), (eP (pL 1 1))])
  (sBrk true)),
  (sSeq (sIf (c0 .ne (eCall 195 [(eP (pL 3 0)), (eP (p2 oIald (p1 (oGf 6 18 3) (pL 3 0)) (pL 1 1))), (eP (p2 oIald (p1 (oGf 6 17 3) (pL 3 0)) (pL 1 1)))]))
  (sCall 206 [(eP (pL 3 0)), (eCall 199 [(eP (pL 3 0)), (eP (pL 1 1))])]))
  (sBrk false))])
  sRet0)
theorem k_204 : b_204.1.1 x_204 (0, true, []) = some ((186, false, []), [], []) := by decide +kernel
/-- LazyFormsModel.work -/
def i_205 : List (Nat × Instr × Nat) := [(0, .aload_n 0, 1), (1, .lload_n 1, 1), (2, .invokevirtual 334, 3), (5, .lstore_n 3, 1), (6, .lload_n 3, 1), (7, .invokestatic 293, 3), (10, .istore 5, 2), (12, .lload_n 3, 1), (13, .invokestatic 297, 3), (16, .ldc2_w 306, 3), (19, .lcmp, 1), (20, .ifCond .ne 69, 3), (23, .aload_n 0, 1), (24, .iload 5, 2), (26, .invokevirtual 308, 3), (29, .ifCond .ne 60, 3), (32, .aload_n 0, 1), (33, .getfield 311, 3), (36, .iload 5, 2), (38, .iaload, 1), (39, .iconst 1, 1), (40, .if_icmp .ne 10, 3), (43, .aload_n 0, 1), (44, .iconst 3, 1), (45, .invokevirtual 409, 3), (48, .pop, 1), (49, .return_, 1), (50, .aload_n 0, 1), (51, .iconst 1, 1), (52, .iconst 0, 1), (53, .iload 5, 2), (55, .invokevirtual 476, 3), (58, .ifCond .ne 4, 3), (61, .return_, 1), (62, .aload_n 0, 1), (63, .getfield 311, 3), (66, .iload 5, 2), (68, .iconst 1, 1), (69, .iastore, 1), (70, .aload_n 0, 1), (71, .aload_n 0, 1), (72, .getfield 89, 3), (75, .aload_n 0, 1), (76, .getfield 204, 3), (79, .iload 5, 2), (81, .iaload, 1), (82, .iaload, 1), (83, .putfield 462, 3), (86, .goto 145, 3), (89, .lload_n 3, 1), (90, .invokestatic 297, 3), (93, .ldc2_w 301, 3), (96, .lcmp, 1), (97, .ifCond .ne 23, 3), (100, .aload_n 0, 1), (101, .getfield 303, 3), (104, .iload 5, 2), (106, .iaload, 1), (107, .iconst 2, 1), (108, .if_icmp .ne 12, 3), (111, .aload_n 0, 1), (112, .iconst 3, 1), (113, .invokevirtual 409, 3), (116, .pop, 1), (117, .goto 114, 3), (120, .lload_n 3, 1), (121, .invokestatic 297, 3), (124, .ldc2_w 301, 3), (127, .lcmp, 1), (128, .ifCond .ne 98, 3), (131, .aload_n 0, 1), (132, .getfield 303, 3), (135, .iload 5, 2), (137, .iaload, 1), (138, .iconst 1, 1), (139, .if_icmp .ne 87, 3), (142, .aload_n 0, 1), (143, .iconst 1, 1), (144, .iconst 0, 1), (145, .iconst (-1), 1), (146, .invokevirtual 476, 3), (149, .ifCond .ne 4, 3), (152, .return_, 1), (153, .aload_n 0, 1), (154, .getfield 365, 3), (157, .bipush 16, 2), (159, .aload_n 0, 1), (160, .getfield 350, 3), (163, .iconst 1, 1), (164, .isub, 1), (165, .imul, 1), (166, .lload_n 3, 1), (167, .lastore, 1), (168, .aload_n 0, 1), (169, .getfield 303, 3), (172, .iload 5, 2), (174, .iconst 2, 1), (175, .iastore, 1), (176, .iconst 0, 1), (177, .istore 6, 2), (179, .iload 6, 2), (181, .bipush 16, 2), (183, .if_icmp .ge 29, 3), (186, .aload_n 0, 1), (187, .getfield 372, 3), (190, .iload 6, 2), (192, .aload_n 0, 1), (193, .getfield 314, 3), (196, .bipush 16, 2), (198, .iload 5, 2), (200, .imul, 1), (201, .iload 6, 2), (203, .iadd, 1), (204, .laload, 1), (205, .lastore, 1), (206, .iinc 6 1, 3), (209, .goto (-30), 3), (212, .aload_n 0, 1), (213, .aload_n 0, 1), (214, .getfield 341, 3), (217, .iload 5, 2), (219, .iaload, 1), (220, .putfield 462, 3), (223, .goto 8, 3), (226, .aload_n 0, 1), (227, .lload_n 3, 1), (228, .invokevirtual 484, 3), (231, .return_, 1)]
def x_205 : zCx := (6, false, 0, zCode i_205, [])
def b_205 : zS := (sSeq (sSeq (sSt 2 3 (eCall 188 [(eP (pL 3 0)), (eP (pL 2 1))]))
  (sSeq (sSt 1 5 (eCall 184 [(eP (pL 2 3))]))
  (sIfE (cAnd (cL .eq (eCall 185 [(eP (pL 2 3))]) (eP (pJ 12884901888))) (cNot (c0 .ne (eCall 187 [(eP (pL 3 0)), (eP (pL 1 5))]))))
  (sSeq (sIf (cP (kI .eq (p2 oIald (p1 (oGf 6 47 3) (pL 3 0)) (pL 1 5)) (pI 1)))
  (sSeq (sCall 197 [(eP (pL 3 0)), (eP (pI 3))])
  sRet0))
  (sSeq (sIf (cNot (c0 .ne (eCall 198 [(eP (pL 3 0)), (eP (pI 1)), (eP (pI 0)), (eP (pL 1 5))])))
  sRet0)
  (sSeq (sSe 1 (eP (p1 (oGf 6 47 3) (pL 3 0))) (eP (pL 1 5)) (eP (pI 1)))
  (sPf (eP (pL 3 0)) 6 57 1 (eP (p2 oIald (p1 (oGf 6 14 3) (pL 3 0)) (p2 oIald (p1 (oGf 6 32 3) (pL 3 0)) (pL 1 5))))))))
  (sIfE (cAnd (cL .eq (eCall 185 [(eP (pL 2 3))]) (eP (pJ 17179869184))) (cP (kI .eq (p2 oIald (p1 (oGf 6 37 3) (pL 3 0)) (pL 1 5)) (pI 2))))
  (sCall 197 [(eP (pL 3 0)), (eP (pI 3))])
  (sIfE (cAnd (cL .eq (eCall 185 [(eP (pL 2 3))]) (eP (pJ 17179869184))) (cP (kI .eq (p2 oIald (p1 (oGf 6 37 3) (pL 3 0)) (pL 1 5)) (pI 1))))
  (sSeq (sIf (cNot (c0 .ne (eCall 198 [(eP (pL 3 0)), (eP (pI 1)), (eP (pI 0)), (eP (pI (-1)))])))
  sRet0)
  (sSeq (sSe 4 (eP (p1 (oGf 6 55 3) (pL 3 0))) (eP (p2 oMul (pI 16) (p2 oSub (p1 (oGf 6 49 1) (pL 3 0)) (pI 1)))) (eP (pL 2 3)))
  (sSeq (sSe 1 (eP (p1 (oGf 6 37 3) (pL 3 0))) (eP (pL 1 5)) (eP (pI 2)))
  (sSeq (sBlk 6 (sSeq (sSt 1 6 (eP (pI 0)))
  (sWh (cP (kI .lt (pL 1 6) (pI 16)))
  (sSe 4 (eP (p1 (oGf 6 58 3) (pL 3 0))) (eP (pL 1 6)) (eP (p2 oLald (p1 (oGf 6 40 3) (pL 3 0)) (p2 oAdd (p2 oMul (pI 16) (pL 1 5)) (pL 1 6)))))
  (sInc 6 1))))
  (sPf (eP (pL 3 0)) 6 57 1 (eP (p2 oIald (p1 (oGf 6 38 3) (pL 3 0)) (pL 1 5))))))))
  (sCall 206 [(eP (pL 3 0)), (eP (pL 2 3))]))))))
  sRet0)
theorem k_205 : b_205.1.1 x_205 (0, true, []) = some ((232, false, []), [], []) := by decide +kernel
/-- LazyFormsModel.comesBack -/
def i_206 : List (Nat × Instr × Nat) := [(0, .aload_n 0, 1), (1, .lload_n 1, 1), (2, .putfield 490, 3), (5, .aload_n 0, 1), (6, .iconst 1, 1), (7, .putfield 493, 3), (10, .aload_n 0, 1), (11, .getfield 493, 3), (14, .ifCond .eq 106, 3), (17, .aload_n 0, 1), (18, .getfield 415, 3), (21, .iconst 1, 1), (22, .if_icmp .ne 98, 3), (25, .aload_n 0, 1), (26, .getfield 350, 3), (29, .iconst 1, 1), (30, .isub, 1), (31, .istore_n 3, 1), (32, .aload_n 0, 1), (33, .getfield 353, 3), (36, .iload_n 3, 1), (37, .iaload, 1), (38, .tableswitch 74 1 5 #[34, 42, 50, 58, 66], 34), (72, .aload_n 0, 1), (73, .iload_n 3, 1), (74, .invokevirtual 496, 3), (77, .goto 40, 3), (80, .aload_n 0, 1), (81, .iload_n 3, 1), (82, .invokevirtual 499, 3), (85, .goto 32, 3), (88, .aload_n 0, 1), (89, .iload_n 3, 1), (90, .invokevirtual 502, 3), (93, .goto 24, 3), (96, .aload_n 0, 1), (97, .iload_n 3, 1), (98, .invokevirtual 505, 3), (101, .goto 16, 3), (104, .aload_n 0, 1), (105, .iload_n 3, 1), (106, .invokevirtual 508, 3), (109, .goto 8, 3), (112, .aload_n 0, 1), (113, .iload_n 3, 1), (114, .invokevirtual 511, 3), (117, .goto (-107), 3), (120, .return_, 1)]
def x_206 : zCx := (6, false, 0, zCode i_206, [])
def b_206 : zS := (sSeq (sSeq (sPf (eP (pL 3 0)) 6 72 2 (eP (pL 2 1)))
  (sSeq (sPf (eP (pL 3 0)) 6 73 4 (eP (pI 1)))
  (sWh (cP (kAnd (k0 .ne (p1 (oGf 6 73 4) (pL 3 0))) (kI .eq (p1 (oGf 6 68 1) (pL 3 0)) (pI 1))))
  (sBlk 3 (sSeq (sSt 1 3 (eP (p2 oSub (p1 (oGf 6 49 1) (pL 3 0)) (pI 1))))
  (sSw (eP (p2 oIald (p1 (oGf 6 50 3) (pL 3 0)) (pL 1 3))) [(1, 0), (2, 1), (3, 2), (4, 3), (5, 4)] 5 [(sSeq (sCall 207 [(eP (pL 3 0)), (eP (pL 1 3))])
  (sBrk true)),
  (sSeq (sCall 209 [(eP (pL 3 0)), (eP (pL 1 3))])
  (sBrk true)),
  (sSeq (sCall 213 [(eP (pL 3 0)), (eP (pL 1 3))])
  (sBrk true)),
  (sSeq (sCall 214 [(eP (pL 3 0)), (eP (pL 1 3))])
  (sBrk true)),
  (sSeq (sCall 215 [(eP (pL 3 0)), (eP (pL 1 3))])
  (sBrk true)),
  (sSeq (sCall 220 [(eP (pL 3 0)), (eP (pL 1 3))])
  (sBrk false))])))
  sSkip)))
  sRet0)
theorem k_206 : b_206.1.1 x_206 (0, true, []) = some ((121, false, []), [], []) := by decide +kernel
/-- LazyFormsModel.wanted -/
def i_207 : List (Nat × Instr × Nat) := [(0, .aload_n 0, 1), (1, .dup, 1), (2, .getfield 350, 3), (5, .iconst 1, 1), (6, .isub, 1), (7, .putfield 350, 3), (10, .aload_n 0, 1), (11, .dup, 1), (12, .getfield 514, 3), (15, .iconst 1, 1), (16, .iadd, 1), (17, .putfield 514, 3), (20, .aload_n 0, 1), (21, .getfield 356, 3), (24, .iload_n 1, 1), (25, .iaload, 1), (26, .ifCond .lt 31, 3), (29, .aload_n 0, 1), (30, .getfield 311, 3), (33, .aload_n 0, 1), (34, .getfield 356, 3), (37, .iload_n 1, 1), (38, .iaload, 1), (39, .iconst 2, 1), (40, .iastore, 1), (41, .aload_n 0, 1), (42, .getfield 318, 3), (45, .aload_n 0, 1), (46, .getfield 356, 3), (49, .iload_n 1, 1), (50, .iaload, 1), (51, .aload_n 0, 1), (52, .getfield 490, 3), (55, .lastore, 1), (56, .return_, 1), (57, .aload_n 0, 1), (58, .getfield 365, 3), (61, .bipush 16, 2), (63, .iload_n 1, 1), (64, .imul, 1), (65, .laload, 1), (66, .invokestatic 293, 3), (69, .istore_n 2, 1), (70, .aload_n 0, 1), (71, .getfield 303, 3), (74, .iload_n 2, 1), (75, .iconst 3, 1), (76, .iastore, 1), (77, .aload_n 0, 1), (78, .getfield 314, 3), (81, .bipush 16, 2), (83, .iload_n 2, 1), (84, .imul, 1), (85, .aload_n 0, 1), (86, .getfield 490, 3), (89, .lastore, 1), (90, .return_, 1)]
def x_207 : zCx := (6, false, 0, zCode i_207, [])
def b_207 : zS := (sSeq (sSeq (sPfo (eP (pL 3 0)) 6 49 1 oSub (eP (pI 1)))
  (sSeq (sPfo (eP (pL 3 0)) 6 64 1 oAdd (eP (pI 1)))
  (sSeq (sIf (cP (k0 .ge (p2 oIald (p1 (oGf 6 52 3) (pL 3 0)) (pL 1 1))))
  (sSeq (sSe 1 (eP (p1 (oGf 6 47 3) (pL 3 0))) (eP (p2 oIald (p1 (oGf 6 52 3) (pL 3 0)) (pL 1 1))) (eP (pI 2)))
  (sSeq (sSe 4 (eP (p1 (oGf 6 48 3) (pL 3 0))) (eP (p2 oIald (p1 (oGf 6 52 3) (pL 3 0)) (pL 1 1))) (eP (p1 (oGf 6 72 2) (pL 3 0))))
  sRet0)))
  (sSeq (sSt 1 2 (eCall 184 [(eP (p2 oLald (p1 (oGf 6 55 3) (pL 3 0)) (p2 oMul (pI 16) (pL 1 1))))]))
  (sSeq (sSe 1 (eP (p1 (oGf 6 37 3) (pL 3 0))) (eP (pL 1 2)) (eP (pI 3)))
  (sSe 4 (eP (p1 (oGf 6 40 3) (pL 3 0))) (eP (p2 oMul (pI 16) (pL 1 2))) (eP (p1 (oGf 6 72 2) (pL 3 0)))))))))
  sRet0)
theorem k_207 : b_207.1.1 x_207 (0, true, []) = some ((91, false, []), [], []) := by decide +kernel
/-- LazyFormsModel.namesOf -/
def i_208 : List (Nat × Instr × Nat) := [(0, .aload_n 0, 1), (1, .getfield 80, 3), (4, .iload_n 1, 1), (5, .iaload, 1), (6, .iconst 3, 1), (7, .if_icmp .ne 12, 3), (10, .aload_n 0, 1), (11, .getfield 83, 3), (14, .iload_n 1, 1), (15, .iaload, 1), (16, .goto 9, 3), (19, .aload_n 0, 1), (20, .getfield 86, 3), (23, .iload_n 1, 1), (24, .iaload, 1), (25, .ireturn, 1)]
def x_208 : zCx := (6, false, 1, zCode i_208, [])
def b_208 : zS := (sRet 1 (eP (pIte (kI .eq (p2 oIald (p1 (oGf 6 11 3) (pL 3 0)) (pL 1 1)) (pI 3)) (p2 oIald (p1 (oGf 6 12 3) (pL 3 0)) (pL 1 1)) (p2 oIald (p1 (oGf 6 13 3) (pL 3 0)) (pL 1 1)))))
theorem k_208 : b_208.1.1 x_208 (0, true, []) = some ((26, false, []), [], []) := by decide +kernel
/-- LazyFormsModel.things -/
def i_209 : List (Nat × Instr × Nat) := [(0, .aload_n 0, 1), (1, .getfield 490, 3), (4, .invokestatic 293, 3), (7, .istore_n 2, 1), (8, .aload_n 0, 1), (9, .getfield 490, 3), (12, .invokestatic 297, 3), (15, .ldc2_w 301, 3), (18, .lcmp, 1), (19, .ifCond .ne 18, 3), (22, .aload_n 0, 1), (23, .getfield 303, 3), (26, .iload_n 2, 1), (27, .iaload, 1), (28, .bipush 6, 2), (30, .if_icmp .ne 7, 3), (33, .iconst 1, 1), (34, .goto 4, 3), (37, .iconst 0, 1), (38, .istore_n 3, 1), (39, .iload_n 3, 1), (40, .ifCond .eq 15, 3), (43, .aload_n 0, 1), (44, .getfield 314, 3), (47, .bipush 16, 2), (49, .iload_n 2, 1), (50, .imul, 1), (51, .laload, 1), (52, .goto 7, 3), (55, .aload_n 0, 1), (56, .getfield 490, 3), (59, .lstore 4, 2), (61, .lload 4, 2), (63, .invokestatic 297, 3), (66, .ldc2_w 301, 3), (69, .lcmp, 1), (70, .ifCond .ne 21, 3), (73, .aload_n 0, 1), (74, .getfield 303, 3), (77, .lload 4, 2), (79, .invokestatic 293, 3), (82, .iaload, 1), (83, .iconst 4, 1), (84, .if_icmp .ne 7, 3), (87, .iconst 1, 1), (88, .goto 4, 3), (91, .iconst 0, 1), (92, .istore 6, 2), (94, .iload 6, 2), (96, .ifCond .ne 34, 3), (99, .lload 4, 2), (101, .invokestatic 297, 3), (104, .ldc2_w 306, 3), (107, .lcmp, 1), (108, .ifCond .ne 15, 3), (111, .aload_n 0, 1), (112, .lload 4, 2), (114, .invokestatic 293, 3), (117, .invokevirtual 308, 3), (120, .ifCond .ne 10, 3), (123, .aload_n 0, 1), (124, .iconst 4, 1), (125, .invokevirtual 409, 3), (128, .pop, 1), (129, .return_, 1), (130, .iload 6, 2), (132, .ifCond .eq 16, 3), (135, .aload_n 0, 1), (136, .getfield 341, 3), (139, .lload 4, 2), (141, .invokestatic 293, 3), (144, .iaload, 1), (145, .goto 13, 3), (148, .aload_n 0, 1), (149, .getfield 204, 3), (152, .lload 4, 2), (154, .invokestatic 293, 3), (157, .iaload, 1), (158, .istore 7, 2), (160, .iload_n 3, 1), (161, .ifCond .eq 14, 3), (164, .aload_n 0, 1), (165, .getfield 344, 3), (168, .iload_n 2, 1), (169, .iaload, 1), (170, .iconst 1, 1), (171, .isub, 1), (172, .goto 4, 3), (175, .iconst 0, 1), (176, .istore 8, 2), (178, .iconst 0, 1), (179, .istore 9, 2), (181, .aload_n 0, 1), (182, .iload 7, 2), (184, .invokevirtual 517, 3), (187, .istore 10, 2), (189, .iload 10, 2), (191, .ifCond .lt 18, 3), (194, .iinc 9 1, 3), (197, .aload_n 0, 1), (198, .getfield 92, 3), (201, .iload 10, 2), (203, .iaload, 1), (204, .istore 10, 2), (206, .goto (-17), 3), (209, .iconst 0, 1), (210, .istore 10, 2), (212, .aload_n 0, 1), (213, .getfield 388, 3), (216, .iconst 0, 1), (217, .lload 4, 2), (219, .lastore, 1), (220, .iconst 0, 1), (221, .istore 11, 2), (223, .iload 11, 2), (225, .iload 8, 2), (227, .if_icmp .ge 32, 3), (230, .aload_n 0, 1), (231, .getfield 388, 3), (234, .iconst 1, 1), (235, .iload 11, 2), (237, .iadd, 1), (238, .aload_n 0, 1), (239, .getfield 314, 3), (242, .bipush 16, 2), (244, .iload_n 2, 1), (245, .imul, 1), (246, .iconst 1, 1), (247, .iadd, 1), (248, .iload 11, 2), (250, .iadd, 1), (251, .laload, 1), (252, .lastore, 1), (253, .iinc 11 1, 3), (256, .goto (-33), 3), (259, .iconst 1, 1), (260, .iload 8, 2), (262, .iadd, 1), (263, .istore 10, 2), (265, .aload_n 0, 1), (266, .getfield 359, 3), (269, .iload_n 1, 1), (270, .iaload, 1), (271, .iload 9, 2), (273, .iload 8, 2), (275, .isub, 1), (276, .invokestatic 191, 3), (279, .istore 11, 2), (281, .iconst 0, 1), (282, .istore 12, 2), (284, .iload 12, 2), (286, .iload 11, 2), (288, .if_icmp .ge 31, 3), (291, .aload_n 0, 1), (292, .getfield 388, 3), (295, .iload 10, 2), (297, .iload 12, 2), (299, .iadd, 1), (300, .aload_n 0, 1), (301, .getfield 365, 3), (304, .bipush 16, 2), (306, .iload_n 1, 1), (307, .imul, 1), (308, .iload 12, 2), (310, .iadd, 1), (311, .laload, 1), (312, .lastore, 1), (313, .iinc 12 1, 3), (316, .goto (-32), 3), (319, .iload 10, 2), (321, .iload 11, 2), (323, .iadd, 1), (324, .istore 10, 2), (326, .iload 10, 2), (328, .iconst 1, 1), (329, .isub, 1), (330, .iload 9, 2), (332, .if_icmp .ge 109, 3), (335, .aload_n 0, 1), (336, .dup, 1), (337, .getfield 350, 3), (340, .iconst 1, 1), (341, .isub, 1), (342, .putfield 350, 3), (345, .aload_n 0, 1), (346, .iload 10, 2), (348, .putfield 385, 3), (351, .aload_n 0, 1), (352, .iconst 1, 1), (353, .iconst 0, 1), (354, .invokevirtual 459, 3), (357, .istore 12, 2), (359, .aload_n 0, 1), (360, .iconst 0, 1), (361, .putfield 385, 3), (364, .iload 12, 2), (366, .ifCond .ne 4, 3), (369, .return_, 1), (370, .aload_n 0, 1), (371, .bipush 6, 2), (373, .iconst (-1), 1), (374, .iload 10, 2), (376, .invokevirtual 453, 3), (379, .istore 13, 2), (381, .iconst 0, 1), (382, .istore 14, 2), (384, .iload 14, 2), (386, .bipush 16, 2), (388, .if_icmp .ge 40, 3), (391, .aload_n 0, 1), (392, .getfield 314, 3), (395, .bipush 16, 2), (397, .iload 13, 2), (399, .imul, 1), (400, .iload 14, 2), (402, .iadd, 1), (403, .iload 14, 2), (405, .iload 10, 2), (407, .if_icmp .ge 13, 3), (410, .aload_n 0, 1), (411, .getfield 388, 3), (414, .iload 14, 2), (416, .laload, 1), (417, .goto 4, 3), (420, .lconst 0, 1), (421, .lastore, 1), (422, .iinc 14 1, 3), (425, .goto (-41), 3), (428, .aload_n 0, 1), (429, .ldc2_w 301, 3), (432, .iload 13, 2), (434, .invokestatic 439, 3), (437, .putfield 490, 3), (440, .return_, 1), (441, .iconst 0, 1), (442, .istore 12, 2), (444, .iload 12, 2), (446, .bipush 16, 2), (448, .if_icmp .ge 41, 3), (451, .aload_n 0, 1), (452, .getfield 372, 3), (455, .iload 12, 2), (457, .iload 6, 2), (459, .ifCond .eq 22, 3), (462, .aload_n 0, 1), (463, .getfield 314, 3), (466, .bipush 16, 2), (468, .lload 4, 2), (470, .invokestatic 293, 3), (473, .imul, 1), (474, .iload 12, 2), (476, .iadd, 1), (477, .laload, 1), (478, .goto 4, 3), (481, .lconst 0, 1), (482, .lastore, 1), (483, .iinc 12 1, 3), (486, .goto (-42), 3), (489, .iconst 1, 1), (490, .istore 12, 2), (492, .aload_n 0, 1), (493, .iload 7, 2), (495, .invokevirtual 517, 3), (498, .istore 13, 2), (500, .iload 13, 2), (502, .ifCond .lt 37, 3), (505, .aload_n 0, 1), (506, .getfield 372, 3), (509, .aload_n 0, 1), (510, .getfield 211, 3), (513, .iload 13, 2), (515, .iaload, 1), (516, .aload_n 0, 1), (517, .getfield 388, 3), (520, .iload 12, 2), (522, .laload, 1), (523, .lastore, 1), (524, .iinc 12 1, 3), (527, .aload_n 0, 1), (528, .getfield 92, 3), (531, .iload 13, 2), (533, .iaload, 1), (534, .istore 13, 2), (536, .goto (-36), 3), (539, .aload_n 0, 1), (540, .getfield 359, 3), (543, .iload_n 1, 1), (544, .iaload, 1), (545, .iload 11, 2), (547, .isub, 1), (548, .istore 13, 2), (550, .iconst 0, 1), (551, .istore 14, 2), (553, .iload 14, 2), (555, .iload 13, 2), (557, .if_icmp .ge 36, 3), (560, .aload_n 0, 1), (561, .getfield 365, 3), (564, .bipush 16, 2), (566, .iload_n 1, 1), (567, .imul, 1), (568, .iload 14, 2), (570, .iadd, 1), (571, .aload_n 0, 1), (572, .getfield 365, 3), (575, .bipush 16, 2), (577, .iload_n 1, 1), (578, .imul, 1), (579, .iload 11, 2), (581, .iadd, 1), (582, .iload 14, 2), (584, .iadd, 1), (585, .laload, 1), (586, .lastore, 1), (587, .iinc 14 1, 3), (590, .goto (-37), 3), (593, .aload_n 0, 1), (594, .getfield 359, 3), (597, .iload_n 1, 1), (598, .iload 13, 2), (600, .iastore, 1), (601, .iload 13, 2), (603, .ifCond .ne 13, 3), (606, .aload_n 0, 1), (607, .dup, 1), (608, .getfield 350, 3), (611, .iconst 1, 1), (612, .isub, 1), (613, .putfield 350, 3), (616, .aload_n 0, 1), (617, .dup, 1), (618, .getfield 520, 3), (621, .iconst 1, 1), (622, .iadd, 1), (623, .putfield 520, 3), (626, .aload_n 0, 1), (627, .aload_n 0, 1), (628, .getfield 80, 3), (631, .iload 7, 2), (633, .iaload, 1), (634, .iconst 3, 1), (635, .if_icmp .ne 13, 3), (638, .aload_n 0, 1), (639, .getfield 86, 3), (642, .iload 7, 2), (644, .iaload, 1), (645, .goto 10, 3), (648, .aload_n 0, 1), (649, .getfield 89, 3), (652, .iload 7, 2), (654, .iaload, 1), (655, .putfield 462, 3), (658, .aload_n 0, 1), (659, .iconst 0, 1), (660, .putfield 493, 3), (663, .return_, 1)]
def x_209 : zCx := (6, false, 0, zCode i_209, [])
def b_209 : zS := (sSeq (sSeq (sSt 1 2 (eCall 184 [(eP (p1 (oGf 6 72 2) (pL 3 0)))]))
  (sSeq (sSt 1 3 (eB (cAnd (cL .eq (eCall 185 [(eP (p1 (oGf 6 72 2) (pL 3 0)))]) (eP (pJ 17179869184))) (cP (kI .eq (p2 oIald (p1 (oGf 6 37 3) (pL 3 0)) (pL 1 2)) (pI 6))))))
  (sSeq (sSt 2 4 (eP (pIte (k0 .ne (pL 1 3)) (p2 oLald (p1 (oGf 6 40 3) (pL 3 0)) (p2 oMul (pI 16) (pL 1 2))) (p1 (oGf 6 72 2) (pL 3 0)))))
  (sSeq (sSt 1 6 (eB (cAnd (cL .eq (eCall 185 [(eP (pL 2 4))]) (eP (pJ 17179869184))) (cI .eq (e2 oIald (eP (p1 (oGf 6 37 3) (pL 3 0))) (eCall 184 [(eP (pL 2 4))])) (eP (pI 4))))))
  (sSeq (sIf (cAnd (cP (kNot (k0 .ne (pL 1 6)))) (cOr (cL .ne (eCall 185 [(eP (pL 2 4))]) (eP (pJ 12884901888))) (cNot (c0 .ne (eCall 187 [(eP (pL 3 0)), (eCall 184 [(eP (pL 2 4))])])))))
  (sSeq (sCall 197 [(eP (pL 3 0)), (eP (pI 4))])
  sRet0))
  (sSeq (sSt 1 7 (eIte (cP (k0 .ne (pL 1 6))) (e2 oIald (eP (p1 (oGf 6 38 3) (pL 3 0))) (eCall 184 [(eP (pL 2 4))])) (e2 oIald (eP (p1 (oGf 6 32 3) (pL 3 0))) (eCall 184 [(eP (pL 2 4))]))))
  (sSeq (sSt 1 8 (eP (pIte (k0 .ne (pL 1 3)) (p2 oSub (p2 oIald (p1 (oGf 6 39 3) (pL 3 0)) (pL 1 2)) (pI 1)) (pI 0))))
  (sSeq (sSt 1 9 (eP (pI 0)))
  (sSeq (sBlk 10 (sSeq (sSt 1 10 (eCall 208 [(eP (pL 3 0)), (eP (pL 1 7))]))
  (sWh (cP (k0 .ge (pL 1 10)))
  (sInc 9 1)
  (sSt 1 10 (eP (p2 oIald (p1 (oGf 6 15 3) (pL 3 0)) (pL 1 10)))))))
  (sSeq (sSt 1 10 (eP (pI 0)))
  (sSeq (sSe 4 (eP (p1 (oGf 6 62 3) (pL 3 0))) (eP (pI 0)) (eP (pL 2 4)))
  (sSeq (sBlk 11 (sSeq (sSt 1 11 (eP (pI 0)))
  (sWh (cP (kI .lt (pL 1 11) (pL 1 8)))
  (sSe 4 (eP (p1 (oGf 6 62 3) (pL 3 0))) (eP (p2 oAdd (pI 1) (pL 1 11))) (eP (p2 oLald (p1 (oGf 6 40 3) (pL 3 0)) (p2 oAdd (p2 oAdd (p2 oMul (pI 16) (pL 1 2)) (pI 1)) (pL 1 11)))))
  (sInc 11 1))))
  (sSeq (sSt 1 10 (eP (p2 oAdd (pI 1) (pL 1 8))))
  (sSeq (sSt 1 11 (eCall 236 [(eP (p2 oIald (p1 (oGf 6 53 3) (pL 3 0)) (pL 1 1))), (eP (p2 oSub (pL 1 9) (pL 1 8)))]))
  (sSeq (sBlk 12 (sSeq (sSt 1 12 (eP (pI 0)))
  (sWh (cP (kI .lt (pL 1 12) (pL 1 11)))
  (sSe 4 (eP (p1 (oGf 6 62 3) (pL 3 0))) (eP (p2 oAdd (pL 1 10) (pL 1 12))) (eP (p2 oLald (p1 (oGf 6 55 3) (pL 3 0)) (p2 oAdd (p2 oMul (pI 16) (pL 1 1)) (pL 1 12)))))
  (sInc 12 1))))
  (sSeq (sSt 1 10 (eP (p2 oAdd (pL 1 10) (pL 1 11))))
  (sSeq (sIf (cP (kI .lt (p2 oSub (pL 1 10) (pI 1)) (pL 1 9)))
  (sBlk 12 (sSeq (sPfo (eP (pL 3 0)) 6 49 1 oSub (eP (pI 1)))
  (sSeq (sPf (eP (pL 3 0)) 6 61 1 (eP (pL 1 10)))
  (sSeq (sSt 1 12 (eCall 195 [(eP (pL 3 0)), (eP (pI 1)), (eP (pI 0))]))
  (sSeq (sPf (eP (pL 3 0)) 6 61 1 (eP (pI 0)))
  (sSeq (sIf (cP (kNot (k0 .ne (pL 1 12))))
  sRet0)
  (sSeq (sSt 1 13 (eCall 196 [(eP (pL 3 0)), (eP (pI 6)), (eP (pI (-1))), (eP (pL 1 10))]))
  (sSeq (sBlk 14 (sSeq (sSt 1 14 (eP (pI 0)))
  (sWh (cP (kI .lt (pL 1 14) (pI 16)))
  (sSe 4 (eP (p1 (oGf 6 40 3) (pL 3 0))) (eP (p2 oAdd (p2 oMul (pI 16) (pL 1 13)) (pL 1 14))) (eP (pIte (kI .lt (pL 1 14) (pL 1 10)) (p2 oLald (p1 (oGf 6 62 3) (pL 3 0)) (pL 1 14)) (pJ 0))))
  (sInc 14 1))))
  (sSeq (sPf (eP (pL 3 0)) 6 72 2 (eCall 186 [(eP (pJ 17179869184)), (eP (pL 1 13))]))
  sRet0))))))))))
  (sSeq (sBlk 12 (sSeq (sSt 1 12 (eP (pI 0)))
  (sWh (cP (kI .lt (pL 1 12) (pI 16)))
  (sSe 4 (eP (p1 (oGf 6 58 3) (pL 3 0))) (eP (pL 1 12)) (eIte (cP (k0 .ne (pL 1 6))) (e2 oLald (eP (p1 (oGf 6 40 3) (pL 3 0))) (e2 oAdd (e2 oMul (eP (pI 16)) (eCall 184 [(eP (pL 2 4))])) (eP (pL 1 12)))) (eP (pJ 0))))
  (sInc 12 1))))
  (sSeq (sSt 1 12 (eP (pI 1)))
  (sSeq (sBlk 13 (sSeq (sSt 1 13 (eCall 208 [(eP (pL 3 0)), (eP (pL 1 7))]))
  (sWh (cP (k0 .ge (pL 1 13)))
  (sSeq (sSe 4 (eP (p1 (oGf 6 58 3) (pL 3 0))) (eP (p2 oIald (p1 (oGf 6 25 3) (pL 3 0)) (pL 1 13))) (eP (p2 oLald (p1 (oGf 6 62 3) (pL 3 0)) (pL 1 12))))
  (sInc 12 1))
  (sSt 1 13 (eP (p2 oIald (p1 (oGf 6 15 3) (pL 3 0)) (pL 1 13)))))))
  (sSeq (sSt 1 13 (eP (p2 oSub (p2 oIald (p1 (oGf 6 53 3) (pL 3 0)) (pL 1 1)) (pL 1 11))))
  (sSeq (sBlk 14 (sSeq (sSt 1 14 (eP (pI 0)))
  (sWh (cP (kI .lt (pL 1 14) (pL 1 13)))
  (sSe 4 (eP (p1 (oGf 6 55 3) (pL 3 0))) (eP (p2 oAdd (p2 oMul (pI 16) (pL 1 1)) (pL 1 14))) (eP (p2 oLald (p1 (oGf 6 55 3) (pL 3 0)) (p2 oAdd (p2 oAdd (p2 oMul (pI 16) (pL 1 1)) (pL 1 11)) (pL 1 14)))))
  (sInc 14 1))))
  (sSeq (sSe 1 (eP (p1 (oGf 6 53 3) (pL 3 0))) (eP (pL 1 1)) (eP (pL 1 13)))
  (sSeq (sIf (cP (k0 .eq (pL 1 13)))
  (sPfo (eP (pL 3 0)) 6 49 1 oSub (eP (pI 1))))
  (sSeq (sPfo (eP (pL 3 0)) 6 65 1 oAdd (eP (pI 1)))
  (sSeq (sPf (eP (pL 3 0)) 6 57 1 (eP (pIte (kI .eq (p2 oIald (p1 (oGf 6 11 3) (pL 3 0)) (pL 1 7)) (pI 3)) (p2 oIald (p1 (oGf 6 13 3) (pL 3 0)) (pL 1 7)) (p2 oIald (p1 (oGf 6 14 3) (pL 3 0)) (pL 1 7)))))
  (sPf (eP (pL 3 0)) 6 73 4 (eP (pI 0)))))))))))))))))))))))))))))
  sRet0)
theorem k_209 : b_209.1.1 x_209 (0, true, []) = some ((664, false, []), [], []) := by decide +kernel
/-- LazyFormsModel.partsOf -/
def i_210 : List (Nat × Instr × Nat) := [(0, .lload_n 1, 1), (1, .invokestatic 297, 3), (4, .ldc2_w 445, 3), (7, .lcmp, 1), (8, .ifCond .ne 7, 3), (11, .iconst 0, 1), (12, .goto 40, 3), (15, .lload_n 1, 1), (16, .invokestatic 297, 3), (19, .ldc2_w 301, 3), (22, .lcmp, 1), (23, .ifCond .ne 28, 3), (26, .aload_n 0, 1), (27, .getfield 303, 3), (30, .lload_n 1, 1), (31, .invokestatic 293, 3), (34, .iaload, 1), (35, .iconst 5, 1), (36, .if_icmp .ne 15, 3), (39, .aload_n 0, 1), (40, .getfield 344, 3), (43, .lload_n 1, 1), (44, .invokestatic 293, 3), (47, .iaload, 1), (48, .goto 4, 3), (51, .iconst (-1), 1), (52, .ireturn, 1)]
def x_210 : zCx := (6, false, 1, zCode i_210, [])
def b_210 : zS := (sRet 1 (eIte (cL .eq (eCall 185 [(eP (pL 2 1))]) (eP (pJ 8589934592))) (eP (pI 0)) (eIte (cAnd (cL .eq (eCall 185 [(eP (pL 2 1))]) (eP (pJ 17179869184))) (cI .eq (e2 oIald (eP (p1 (oGf 6 37 3) (pL 3 0))) (eCall 184 [(eP (pL 2 1))])) (eP (pI 5)))) (e2 oIald (eP (p1 (oGf 6 39 3) (pL 3 0))) (eCall 184 [(eP (pL 2 1))])) (eP (pI (-1))))))
theorem k_210 : b_210.1.1 x_210 (0, true, []) = some ((53, false, []), [], []) := by decide +kernel
/-- LazyFormsModel.makerOf -/
def i_211 : List (Nat × Instr × Nat) := [(0, .lload_n 1, 1), (1, .invokestatic 297, 3), (4, .ldc2_w 445, 3), (7, .lcmp, 1), (8, .ifCond .ne 10, 3), (11, .lload_n 1, 1), (12, .invokestatic 293, 3), (15, .goto 12, 3), (18, .aload_n 0, 1), (19, .getfield 341, 3), (22, .lload_n 1, 1), (23, .invokestatic 293, 3), (26, .iaload, 1), (27, .ireturn, 1)]
def x_211 : zCx := (6, false, 1, zCode i_211, [])
def b_211 : zS := (sRet 1 (eIte (cL .eq (eCall 185 [(eP (pL 2 1))]) (eP (pJ 8589934592))) (eCall 184 [(eP (pL 2 1))]) (e2 oIald (eP (p1 (oGf 6 38 3) (pL 3 0))) (eCall 184 [(eP (pL 2 1))]))))
theorem k_211 : b_211.1.1 x_211 (0, true, []) = some ((28, false, []), [], []) := by decide +kernel
/-- LazyFormsModel.fits -/
def i_212 : List (Nat × Instr × Nat) := [(0, .aload_n 0, 1), (1, .getfield 101, 3), (4, .iload_n 1, 1), (5, .iaload, 1), (6, .iconst 3, 1), (7, .if_icmp .ne 5, 3), (10, .iconst 1, 1), (11, .ireturn, 1), (12, .aload_n 0, 1), (13, .getfield 101, 3), (16, .iload_n 1, 1), (17, .iaload, 1), (18, .iconst 2, 1), (19, .if_icmp .ne 39, 3), (22, .aload_n 0, 1), (23, .getfield 490, 3), (26, .invokestatic 297, 3), (29, .ldc2_w 443, 3), (32, .lcmp, 1), (33, .ifCond .ne 23, 3), (36, .aload_n 0, 1), (37, .getfield 490, 3), (40, .invokestatic 293, 3), (43, .aload_n 0, 1), (44, .getfield 83, 3), (47, .iload_n 1, 1), (48, .iaload, 1), (49, .if_icmp .ne 7, 3), (52, .iconst 1, 1), (53, .goto 4, 3), (56, .iconst 0, 1), (57, .ireturn, 1), (58, .iconst 0, 1), (59, .istore_n 2, 1), (60, .aload_n 0, 1), (61, .getfield 86, 3), (64, .iload_n 1, 1), (65, .iaload, 1), (66, .istore_n 3, 1), (67, .iload_n 3, 1), (68, .ifCond .lt 16, 3), (71, .iinc 2 1, 3), (74, .aload_n 0, 1), (75, .getfield 92, 3), (78, .iload_n 3, 1), (79, .iaload, 1), (80, .istore_n 3, 1), (81, .goto (-14), 3), (84, .aload_n 0, 1), (85, .aload_n 0, 1), (86, .getfield 490, 3), (89, .invokevirtual 523, 3), (92, .iload_n 2, 1), (93, .if_icmp .ne 28, 3), (96, .aload_n 0, 1), (97, .aload_n 0, 1), (98, .aload_n 0, 1), (99, .getfield 490, 3), (102, .invokevirtual 526, 3), (105, .aload_n 0, 1), (106, .getfield 83, 3), (109, .iload_n 1, 1), (110, .iaload, 1), (111, .invokevirtual 207, 3), (114, .ifCond .eq 7, 3), (117, .iconst 1, 1), (118, .goto 4, 3), (121, .iconst 0, 1), (122, .ireturn, 1)]
def x_212 : zCx := (6, false, 4, zCode i_212, [])
def b_212 : zS := (sSeq (sIf (cP (kI .eq (p2 oIald (p1 (oGf 6 18 3) (pL 3 0)) (pL 1 1)) (pI 3)))
  (sRet 4 (eP (pI 1))))
  (sSeq (sIf (cP (kI .eq (p2 oIald (p1 (oGf 6 18 3) (pL 3 0)) (pL 1 1)) (pI 2)))
  (sRet 4 (eB (cAnd (cL .eq (eCall 185 [(eP (p1 (oGf 6 72 2) (pL 3 0)))]) (eP (pJ 4294967296))) (cI .eq (eCall 184 [(eP (p1 (oGf 6 72 2) (pL 3 0)))]) (eP (p2 oIald (p1 (oGf 6 12 3) (pL 3 0)) (pL 1 1))))))))
  (sSeq (sSt 1 2 (eP (pI 0)))
  (sSeq (sBlk 3 (sSeq (sSt 1 3 (eP (p2 oIald (p1 (oGf 6 13 3) (pL 3 0)) (pL 1 1))))
  (sWh (cP (k0 .ge (pL 1 3)))
  (sInc 2 1)
  (sSt 1 3 (eP (p2 oIald (p1 (oGf 6 15 3) (pL 3 0)) (pL 1 3)))))))
  (sRet 4 (eB (cAnd (cI .eq (eCall 210 [(eP (pL 3 0)), (eP (p1 (oGf 6 72 2) (pL 3 0)))]) (eP (pL 1 2))) (c0 .ne (eCall 143 [(eP (pL 3 0)), (eCall 211 [(eP (pL 3 0)), (eP (p1 (oGf 6 72 2) (pL 3 0)))]), (eP (p2 oIald (p1 (oGf 6 12 3) (pL 3 0)) (pL 1 1)))])))))))))
theorem k_212 : b_212.1.1 x_212 (0, true, []) = some ((123, false, []), [], []) := by decide +kernel
/-- LazyFormsModel.alts -/
def i_213 : List (Nat × Instr × Nat) := [(0, .aload_n 0, 1), (1, .getfield 86, 3), (4, .aload_n 0, 1), (5, .getfield 424, 3), (8, .iload_n 1, 1), (9, .iaload, 1), (10, .iaload, 1), (11, .istore_n 2, 1), (12, .iload_n 2, 1), (13, .ifCond .lt 21, 3), (16, .aload_n 0, 1), (17, .iload_n 2, 1), (18, .invokevirtual 529, 3), (21, .ifCond .ne 13, 3), (24, .aload_n 0, 1), (25, .getfield 92, 3), (28, .iload_n 2, 1), (29, .iaload, 1), (30, .istore_n 2, 1), (31, .goto (-19), 3), (34, .iload_n 2, 1), (35, .ifCond .ge 10, 3), (38, .aload_n 0, 1), (39, .iconst 4, 1), (40, .invokevirtual 409, 3), (43, .pop, 1), (44, .return_, 1), (45, .aload_n 0, 1), (46, .dup, 1), (47, .getfield 350, 3), (50, .iconst 1, 1), (51, .isub, 1), (52, .putfield 350, 3), (55, .iconst 0, 1), (56, .istore_n 3, 1), (57, .iload_n 3, 1), (58, .bipush 16, 2), (60, .if_icmp .ge 26, 3), (63, .aload_n 0, 1), (64, .getfield 372, 3), (67, .iload_n 3, 1), (68, .aload_n 0, 1), (69, .getfield 365, 3), (72, .bipush 16, 2), (74, .iload_n 1, 1), (75, .imul, 1), (76, .iload_n 3, 1), (77, .iadd, 1), (78, .laload, 1), (79, .lastore, 1), (80, .iinc 3 1, 3), (83, .goto (-26), 3), (86, .iconst 0, 1), (87, .istore_n 3, 1), (88, .aload_n 0, 1), (89, .getfield 86, 3), (92, .iload_n 2, 1), (93, .iaload, 1), (94, .istore 4, 2), (96, .iload 4, 2), (98, .ifCond .lt 74, 3), (101, .aload_n 0, 1), (102, .getfield 211, 3), (105, .iload 4, 2), (107, .iaload, 1), (108, .ifCond .lt 49, 3), (111, .aload_n 0, 1), (112, .getfield 372, 3), (115, .aload_n 0, 1), (116, .getfield 211, 3), (119, .iload 4, 2), (121, .iaload, 1), (122, .aload_n 0, 1), (123, .getfield 101, 3), (126, .iload_n 2, 1), (127, .iaload, 1), (128, .iconst 3, 1), (129, .if_icmp .ne 10, 3), (132, .aload_n 0, 1), (133, .getfield 490, 3), (136, .goto 20, 3), (139, .aload_n 0, 1), (140, .getfield 314, 3), (143, .bipush 16, 2), (145, .aload_n 0, 1), (146, .getfield 490, 3), (149, .invokestatic 293, 3), (152, .imul, 1), (153, .iload_n 3, 1), (154, .iadd, 1), (155, .laload, 1), (156, .lastore, 1), (157, .iinc 3 1, 3), (160, .aload_n 0, 1), (161, .getfield 92, 3), (164, .iload 4, 2), (166, .iaload, 1), (167, .istore 4, 2), (169, .goto (-73), 3), (172, .aload_n 0, 1), (173, .aload_n 0, 1), (174, .getfield 89, 3), (177, .iload_n 2, 1), (178, .iaload, 1), (179, .putfield 462, 3), (182, .aload_n 0, 1), (183, .iconst 0, 1), (184, .putfield 493, 3), (187, .return_, 1)]
def x_213 : zCx := (6, false, 0, zCode i_213, [])
def b_213 : zS := (sSeq (sSeq (sSt 1 2 (eP (p2 oIald (p1 (oGf 6 13 3) (pL 3 0)) (p2 oIald (p1 (oGf 6 51 3) (pL 3 0)) (pL 1 1)))))
  (sSeq (sWh (cAnd (cP (k0 .ge (pL 1 2))) (cNot (c0 .ne (eCall 212 [(eP (pL 3 0)), (eP (pL 1 2))]))))
  (sSt 1 2 (eP (p2 oIald (p1 (oGf 6 15 3) (pL 3 0)) (pL 1 2))))
  sSkip)
  (sSeq (sIf (cP (k0 .lt (pL 1 2)))
  (sSeq (sCall 197 [(eP (pL 3 0)), (eP (pI 4))])
  sRet0))
  (sSeq (sPfo (eP (pL 3 0)) 6 49 1 oSub (eP (pI 1)))
  (sSeq (sBlk 3 (sSeq (sSt 1 3 (eP (pI 0)))
  (sWh (cP (kI .lt (pL 1 3) (pI 16)))
  (sSe 4 (eP (p1 (oGf 6 58 3) (pL 3 0))) (eP (pL 1 3)) (eP (p2 oLald (p1 (oGf 6 55 3) (pL 3 0)) (p2 oAdd (p2 oMul (pI 16) (pL 1 1)) (pL 1 3)))))
  (sInc 3 1))))
  (sSeq (sSt 1 3 (eP (pI 0)))
  (sSeq (sBlk 4 (sSeq (sSt 1 4 (eP (p2 oIald (p1 (oGf 6 13 3) (pL 3 0)) (pL 1 2))))
  (sWh (cP (k0 .ge (pL 1 4)))
  (sSeq (sIf (cP (k0 .ge (p2 oIald (p1 (oGf 6 25 3) (pL 3 0)) (pL 1 4))))
  (sSe 4 (eP (p1 (oGf 6 58 3) (pL 3 0))) (eP (p2 oIald (p1 (oGf 6 25 3) (pL 3 0)) (pL 1 4))) (eIte (cP (kI .eq (p2 oIald (p1 (oGf 6 18 3) (pL 3 0)) (pL 1 2)) (pI 3))) (eP (p1 (oGf 6 72 2) (pL 3 0))) (e2 oLald (eP (p1 (oGf 6 40 3) (pL 3 0))) (e2 oAdd (e2 oMul (eP (pI 16)) (eCall 184 [(eP (p1 (oGf 6 72 2) (pL 3 0)))])) (eP (pL 1 3)))))))
  (sInc 3 1))
  (sSt 1 4 (eP (p2 oIald (p1 (oGf 6 15 3) (pL 3 0)) (pL 1 4)))))))
  (sSeq (sPf (eP (pL 3 0)) 6 57 1 (eP (p2 oIald (p1 (oGf 6 14 3) (pL 3 0)) (pL 1 2))))
  (sPf (eP (pL 3 0)) 6 73 4 (eP (pI 0)))))))))))
  sRet0)
theorem k_213 : b_213.1.1 x_213 (0, true, []) = some ((188, false, []), [], []) := by decide +kernel
/-- LazyFormsModel.right -/
def i_214 : List (Nat × Instr × Nat) := [(0, .aload_n 0, 1), (1, .getfield 490, 3), (4, .invokestatic 297, 3), (7, .ldc2_w 443, 3), (10, .lcmp, 1), (11, .ifCond .eq 10, 3), (14, .aload_n 0, 1), (15, .iconst 4, 1), (16, .invokevirtual 409, 3), (19, .pop, 1), (20, .return_, 1), (21, .iconst 0, 1), (22, .istore_n 2, 1), (23, .iload_n 2, 1), (24, .bipush 16, 2), (26, .if_icmp .ge 26, 3), (29, .aload_n 0, 1), (30, .getfield 372, 3), (33, .iload_n 2, 1), (34, .aload_n 0, 1), (35, .getfield 365, 3), (38, .bipush 16, 2), (40, .iload_n 1, 1), (41, .imul, 1), (42, .iload_n 2, 1), (43, .iadd, 1), (44, .laload, 1), (45, .lastore, 1), (46, .iinc 2 1, 3), (49, .goto (-26), 3), (52, .aload_n 0, 1), (53, .getfield 353, 3), (56, .iload_n 1, 1), (57, .iconst 5, 1), (58, .iastore, 1), (59, .aload_n 0, 1), (60, .getfield 356, 3), (63, .iload_n 1, 1), (64, .aload_n 0, 1), (65, .getfield 490, 3), (68, .invokestatic 293, 3), (71, .iastore, 1), (72, .aload_n 0, 1), (73, .aload_n 0, 1), (74, .getfield 86, 3), (77, .aload_n 0, 1), (78, .getfield 424, 3), (81, .iload_n 1, 1), (82, .iaload, 1), (83, .iaload, 1), (84, .putfield 462, 3), (87, .aload_n 0, 1), (88, .iconst 0, 1), (89, .putfield 493, 3), (92, .return_, 1)]
def x_214 : zCx := (6, false, 0, zCode i_214, [])
def b_214 : zS := (sSeq (sSeq (sIf (cL .ne (eCall 185 [(eP (p1 (oGf 6 72 2) (pL 3 0)))]) (eP (pJ 4294967296)))
  (sSeq (sCall 197 [(eP (pL 3 0)), (eP (pI 4))])
  sRet0))
  (sSeq (sBlk 2 (sSeq (sSt 1 2 (eP (pI 0)))
  (sWh (cP (kI .lt (pL 1 2) (pI 16)))
  (sSe 4 (eP (p1 (oGf 6 58 3) (pL 3 0))) (eP (pL 1 2)) (eP (p2 oLald (p1 (oGf 6 55 3) (pL 3 0)) (p2 oAdd (p2 oMul (pI 16) (pL 1 1)) (pL 1 2)))))
  (sInc 2 1))))
  (sSeq (sSe 1 (eP (p1 (oGf 6 50 3) (pL 3 0))) (eP (pL 1 1)) (eP (pI 5)))
  (sSeq (sSe 1 (eP (p1 (oGf 6 52 3) (pL 3 0))) (eP (pL 1 1)) (eCall 184 [(eP (p1 (oGf 6 72 2) (pL 3 0)))]))
  (sSeq (sPf (eP (pL 3 0)) 6 57 1 (eP (p2 oIald (p1 (oGf 6 13 3) (pL 3 0)) (p2 oIald (p1 (oGf 6 51 3) (pL 3 0)) (pL 1 1)))))
  (sPf (eP (pL 3 0)) 6 73 4 (eP (pI 0))))))))
  sRet0)
theorem k_214 : b_214.1.1 x_214 (0, true, []) = some ((93, false, []), [], []) := by decide +kernel
/-- LazyFormsModel.sign -/
def i_215 : List (Nat × Instr × Nat) := [(0, .aload_n 0, 1), (1, .getfield 356, 3), (4, .iload_n 1, 1), (5, .iaload, 1), (6, .istore_n 2, 1), (7, .aload_n 0, 1), (8, .getfield 490, 3), (11, .invokestatic 293, 3), (14, .istore_n 3, 1), (15, .aload_n 0, 1), (16, .getfield 89, 3), (19, .aload_n 0, 1), (20, .getfield 424, 3), (23, .iload_n 1, 1), (24, .iaload, 1), (25, .iaload, 1), (26, .istore 4, 2), (28, .aload_n 0, 1), (29, .getfield 490, 3), (32, .invokestatic 297, 3), (35, .ldc2_w 443, 3), (38, .lcmp, 1), (39, .ifCond .ne 14, 3), (42, .iload 4, 2), (44, .bipush 47, 2), (46, .if_icmp .ne 14, 3), (49, .iload_n 3, 1), (50, .ifCond .ne 10, 3), (53, .aload_n 0, 1), (54, .iconst 4, 1), (55, .invokevirtual 409, 3), (58, .pop, 1), (59, .return_, 1), (60, .aload_n 0, 1), (61, .dup, 1), (62, .getfield 350, 3), (65, .iconst 1, 1), (66, .isub, 1), (67, .putfield 350, 3), (70, .iload 4, 2), (72, .lookupswitch 164 #[(42, 92), (43, 60), (45, 76), (47, 108), (60, 124), (257, 144)], 60), (132, .aload_n 0, 1), (133, .ldc2_w 443, 3), (136, .iload_n 2, 1), (137, .iload_n 3, 1), (138, .iadd, 1), (139, .invokestatic 439, 3), (142, .putfield 490, 3), (145, .goto 108, 3), (148, .aload_n 0, 1), (149, .ldc2_w 443, 3), (152, .iload_n 2, 1), (153, .iload_n 3, 1), (154, .isub, 1), (155, .invokestatic 439, 3), (158, .putfield 490, 3), (161, .goto 92, 3), (164, .aload_n 0, 1), (165, .ldc2_w 443, 3), (168, .iload_n 2, 1), (169, .iload_n 3, 1), (170, .imul, 1), (171, .invokestatic 439, 3), (174, .putfield 490, 3), (177, .goto 76, 3), (180, .aload_n 0, 1), (181, .ldc2_w 443, 3), (184, .iload_n 2, 1), (185, .iload_n 3, 1), (186, .idiv, 1), (187, .invokestatic 439, 3), (190, .putfield 490, 3), (193, .goto 60, 3), (196, .aload_n 0, 1), (197, .iload_n 2, 1), (198, .iload_n 3, 1), (199, .if_icmp .ge 7, 3), (202, .iconst 1, 1), (203, .goto 4, 3), (206, .iconst 0, 1), (207, .invokestatic 532, 3), (210, .putfield 490, 3), (213, .goto 40, 3), (216, .aload_n 0, 1), (217, .iload_n 2, 1), (218, .iload_n 3, 1), (219, .if_icmp .gt 7, 3), (222, .iconst 1, 1), (223, .goto 4, 3), (226, .iconst 0, 1), (227, .invokestatic 532, 3), (230, .putfield 490, 3), (233, .goto 20, 3), (236, .aload_n 0, 1), (237, .iload_n 2, 1), (238, .iload_n 3, 1), (239, .if_icmp .ne 7, 3), (242, .iconst 1, 1), (243, .goto 4, 3), (246, .iconst 0, 1), (247, .invokestatic 532, 3), (250, .putfield 490, 3), (253, .return_, 1)]
def x_215 : zCx := (6, false, 0, zCode i_215, [])
def b_215 : zS := (sSeq (sSeq (sSt 1 2 (eP (p2 oIald (p1 (oGf 6 52 3) (pL 3 0)) (pL 1 1))))
  (sSeq (sSt 1 3 (eCall 184 [(eP (p1 (oGf 6 72 2) (pL 3 0)))]))
  (sSeq (sSt 1 4 (eP (p2 oIald (p1 (oGf 6 14 3) (pL 3 0)) (p2 oIald (p1 (oGf 6 51 3) (pL 3 0)) (pL 1 1)))))
  (sSeq (sIf (cOr (cL .ne (eCall 185 [(eP (p1 (oGf 6 72 2) (pL 3 0)))]) (eP (pJ 4294967296))) (cP (kAnd (kI .eq (pL 1 4) (pI 47)) (k0 .eq (pL 1 3)))))
  (sSeq (sCall 197 [(eP (pL 3 0)), (eP (pI 4))])
  sRet0))
  (sSeq (sPfo (eP (pL 3 0)) 6 49 1 oSub (eP (pI 1)))
  (sSw (eP (pL 1 4)) [(42, 2), (43, 0), (45, 1), (47, 3), (60, 4), (257, 5)] 6 [(sSeq (sPf (eP (pL 3 0)) 6 72 2 (eCall 186 [(eP (pJ 4294967296)), (eP (p2 oAdd (pL 1 2) (pL 1 3)))]))
  (sBrk true)),
  (sSeq (sPf (eP (pL 3 0)) 6 72 2 (eCall 186 [(eP (pJ 4294967296)), (eP (p2 oSub (pL 1 2) (pL 1 3)))]))
  (sBrk true)),
  (sSeq (sPf (eP (pL 3 0)) 6 72 2 (eCall 186 [(eP (pJ 4294967296)), (eP (p2 oMul (pL 1 2) (pL 1 3)))]))
  (sBrk true)),
  (sSeq (sPf (eP (pL 3 0)) 6 72 2 (eCall 186 [(eP (pJ 4294967296)), (eP (p2 oDiv (pL 1 2) (pL 1 3)))]))
  (sBrk true)),
  (sSeq (sPf (eP (pL 3 0)) 6 72 2 (eCall 216 [(eP (pB (kI .lt (pL 1 2) (pL 1 3))))]))
  (sBrk true)),
  (sSeq (sPf (eP (pL 3 0)) 6 72 2 (eCall 216 [(eP (pB (kI .le (pL 1 2) (pL 1 3))))]))
  (sBrk true)),
  (sSeq (sPf (eP (pL 3 0)) 6 72 2 (eCall 216 [(eP (pB (kI .eq (pL 1 2) (pL 1 3))))]))
  (sBrk false))]))))))
  sRet0)
theorem k_215 : b_215.1.1 x_215 (0, true, []) = some ((254, false, []), [], []) := by decide +kernel
/-- LazyFormsModel.truth -/
def i_216 : List (Nat × Instr × Nat) := [(0, .ldc2_w 445, 3), (3, .iload_n 0, 1), (4, .ifCond .eq 9, 3), (7, .sipush 8000, 3), (10, .goto 6, 3), (13, .sipush 8004, 3), (16, .invokestatic 439, 3), (19, .lreturn, 1)]
def x_216 : zCx := (6, false, 2, zCode i_216, [])
def b_216 : zS := (sRet 2 (eCall 186 [(eP (pJ 8589934592)), (eP (pIte (k0 .ne (pL 1 0)) (pI 8000) (pI 8004)))]))
theorem k_216 : b_216.1.1 x_216 (0, true, []) = some ((20, false, []), [], []) := by decide +kernel
/-- LazyFormsModel.says -/
def i_217 : List (Nat × Instr × Nat) := [(0, .aload_n 0, 1), (1, .getfield 536, 3), (4, .sipush 1000, 3), (7, .if_icmp .ne 10, 3), (10, .aload_n 0, 1), (11, .bipush 7, 2), (13, .invokevirtual 409, 3), (16, .ireturn, 1), (17, .aload_n 0, 1), (18, .getfield 539, 3), (21, .aload_n 0, 1), (22, .getfield 536, 3), (25, .iload_n 1, 1), (26, .i2b, 1), (27, .bastore, 1), (28, .aload_n 0, 1), (29, .dup, 1), (30, .getfield 536, 3), (33, .iconst 1, 1), (34, .iadd, 1), (35, .putfield 536, 3), (38, .iconst 1, 1), (39, .ireturn, 1)]
def x_217 : zCx := (6, false, 4, zCode i_217, [])
def b_217 : zS := (sSeq (sIf (cP (kI .eq (p1 (oGf 6 75 1) (pL 3 0)) (pI 1000)))
  (sRet 4 (eCall 197 [(eP (pL 3 0)), (eP (pI 7))])))
  (sSeq (sSe 2 (eP (p1 (oGf 6 76 3) (pL 3 0))) (eP (p1 (oGf 6 75 1) (pL 3 0))) (eP (p1 oI2b (pL 1 1))))
  (sSeq (sPfo (eP (pL 3 0)) 6 75 1 oAdd (eP (pI 1)))
  (sRet 4 (eP (pI 1))))))
theorem k_217 : b_217.1.1 x_217 (0, true, []) = some ((40, false, []), [], []) := by decide +kernel
/-- LazyFormsModel.saysNumber -/
def i_218 : List (Nat × Instr × Nat) := [(0, .iload_n 1, 1), (1, .ifCond .ge 12, 3), (4, .aload_n 0, 1), (5, .bipush 45, 2), (7, .invokevirtual 542, 3), (10, .ifCond .eq 7, 3), (13, .iconst 1, 1), (14, .goto 4, 3), (17, .iconst 0, 1), (18, .istore_n 2, 1), (19, .iconst 1, 1), (20, .istore_n 3, 1), (21, .iload_n 1, 1), (22, .bipush 10, 2), (24, .idiv, 1), (25, .istore 4, 2), (27, .iload 4, 2), (29, .ifCond .eq 16, 3), (32, .iinc 3 1, 3), (35, .iload 4, 2), (37, .bipush 10, 2), (39, .idiv, 1), (40, .istore 4, 2), (42, .goto (-15), 3), (45, .iload_n 3, 1), (46, .iconst 1, 1), (47, .isub, 1), (48, .istore 4, 2), (50, .iload 4, 2), (52, .ifCond .lt 67, 3), (55, .iload_n 2, 1), (56, .ifCond .eq 63, 3), (59, .iload_n 1, 1), (60, .istore 5, 2), (62, .iconst 0, 1), (63, .istore 6, 2), (65, .iload 6, 2), (67, .iload 4, 2), (69, .if_icmp .ge 16, 3), (72, .iload 5, 2), (74, .bipush 10, 2), (76, .idiv, 1), (77, .istore 5, 2), (79, .iinc 6 1, 3), (82, .goto (-17), 3), (85, .iload 5, 2), (87, .bipush 10, 2), (89, .irem, 1), (90, .istore 6, 2), (92, .aload_n 0, 1), (93, .bipush 48, 2), (95, .iload 6, 2), (97, .ifCond .ge 9, 3), (100, .iload 6, 2), (102, .ineg, 1), (103, .goto 5, 3), (106, .iload 6, 2), (108, .iadd, 1), (109, .invokevirtual 542, 3), (112, .istore_n 2, 1), (113, .iinc 4 (-1), 3), (116, .goto (-66), 3), (119, .iload_n 2, 1), (120, .ireturn, 1)]
def x_218 : zCx := (6, false, 4, zCode i_218, [])
def b_218 : zS := (sSeq (sSt 1 2 (eB (cOr (cP (k0 .ge (pL 1 1))) (c0 .ne (eCall 217 [(eP (pL 3 0)), (eP (pI 45))])))))
  (sSeq (sSt 1 3 (eP (pI 1)))
  (sSeq (sBlk 4 (sSeq (sSt 1 4 (eP (p2 oDiv (pL 1 1) (pI 10))))
  (sWh (cP (k0 .ne (pL 1 4)))
  (sInc 3 1)
  (sSt 1 4 (eP (p2 oDiv (pL 1 4) (pI 10)))))))
  (sSeq (sBlk 4 (sSeq (sSt 1 4 (eP (p2 oSub (pL 1 3) (pI 1))))
  (sWh (cP (kAnd (k0 .ge (pL 1 4)) (k0 .ne (pL 1 2))))
  (sBlk 5 (sSeq (sSt 1 5 (eP (pL 1 1)))
  (sSeq (sBlk 6 (sSeq (sSt 1 6 (eP (pI 0)))
  (sWh (cP (kI .lt (pL 1 6) (pL 1 4)))
  (sSt 1 5 (eP (p2 oDiv (pL 1 5) (pI 10))))
  (sInc 6 1))))
  (sSeq (sSt 1 6 (eP (p2 oRem (pL 1 5) (pI 10))))
  (sSt 1 2 (eCall 217 [(eP (pL 3 0)), (eP (p2 oAdd (pI 48) (pIte (k0 .lt (pL 1 6)) (p1 oNeg (pL 1 6)) (pL 1 6))))]))))))
  (sInc 4 (-1)))))
  (sRet 4 (eP (pL 1 2)))))))
theorem k_218 : b_218.1.1 x_218 (0, true, []) = some ((121, false, []), [], []) := by decide +kernel
/-- LazyFormsModel.saysMaker -/
def i_219 : List (Nat × Instr × Nat) := [(0, .iconst 1, 1), (1, .istore_n 2, 1), (2, .aload_n 0, 1), (3, .iload_n 1, 1), (4, .invokevirtual 74, 3), (7, .istore_n 3, 1), (8, .iconst 0, 1), (9, .istore 4, 2), (11, .iload 4, 2), (13, .iload_n 3, 1), (14, .if_icmp .ge 27, 3), (17, .iload_n 2, 1), (18, .ifCond .eq 23, 3), (21, .aload_n 0, 1), (22, .aload_n 0, 1), (23, .getfield 22, 3), (26, .iload_n 1, 1), (27, .iload 4, 2), (29, .iadd, 1), (30, .baload, 1), (31, .invokevirtual 542, 3), (34, .istore_n 2, 1), (35, .iinc 4 1, 3), (38, .goto (-27), 3), (41, .iload_n 2, 1), (42, .ireturn, 1)]
def x_219 : zCx := (6, false, 4, zCode i_219, [])
def b_219 : zS := (sSeq (sSt 1 2 (eP (pI 1)))
  (sSeq (sSt 1 3 (eCall 142 [(eP (pL 3 0)), (eP (pL 1 1))]))
  (sSeq (sBlk 4 (sSeq (sSt 1 4 (eP (pI 0)))
  (sWh (cP (kAnd (kI .lt (pL 1 4) (pL 1 3)) (k0 .ne (pL 1 2))))
  (sSt 1 2 (eCall 217 [(eP (pL 3 0)), (eBy (p1 (oGf 6 2 3) (pL 3 0)) (p2 oAdd (pL 1 1) (pL 1 4)))]))
  (sInc 4 1))))
  (sRet 4 (eP (pL 1 2))))))
theorem k_219 : b_219.1.1 x_219 (0, true, []) = some ((43, false, []), [], []) := by decide +kernel
/-- LazyFormsModel.show -/
def i_220 : List (Nat × Instr × Nat) := [(0, .aload_n 0, 1), (1, .getfield 353, 3), (4, .iload_n 1, 1), (5, .iaload, 1), (6, .bipush 6, 2), (8, .if_icmp .ne 7, 3), (11, .iconst 1, 1), (12, .goto 4, 3), (15, .iconst 0, 1), (16, .istore_n 2, 1), (17, .iload_n 2, 1), (18, .ifCond .eq 12, 3), (21, .aload_n 0, 1), (22, .getfield 424, 3), (25, .iload_n 1, 1), (26, .iaload, 1), (27, .goto 9, 3), (30, .aload_n 0, 1), (31, .getfield 356, 3), (34, .iload_n 1, 1), (35, .iaload, 1), (36, .istore_n 3, 1), (37, .aload_n 0, 1), (38, .iconst 0, 1), (39, .putfield 493, 3), (42, .aload_n 0, 1), (43, .aload_n 0, 1), (44, .getfield 490, 3), (47, .invokevirtual 523, 3), (50, .istore 4, 2), (52, .aload_n 0, 1), (53, .getfield 490, 3), (56, .invokestatic 297, 3), (59, .ldc2_w 443, 3), (62, .lcmp, 1), (63, .ifCond .ne 19, 3), (66, .aload_n 0, 1), (67, .aload_n 0, 1), (68, .getfield 490, 3), (71, .invokestatic 293, 3), (74, .invokevirtual 545, 3), (77, .istore 5, 2), (79, .goto 59, 3), (82, .iload 4, 2), (84, .ifCond .ge 14, 3), (87, .aload_n 0, 1), (88, .bipush 63, 2), (90, .invokevirtual 542, 3), (93, .istore 5, 2), (95, .goto 43, 3), (98, .iload 4, 2), (100, .ifCond .eq 16, 3), (103, .iload_n 2, 1), (104, .ifCond .eq 12, 3), (107, .aload_n 0, 1), (108, .bipush 40, 2), (110, .invokevirtual 542, 3), (113, .ifCond .eq 22, 3), (116, .aload_n 0, 1), (117, .aload_n 0, 1), (118, .aload_n 0, 1), (119, .getfield 490, 3), (122, .invokevirtual 526, 3), (125, .invokevirtual 548, 3), (128, .ifCond .eq 7, 3), (131, .iconst 1, 1), (132, .goto 4, 3), (135, .iconst 0, 1), (136, .istore 5, 2), (138, .iload 5, 2), (140, .ifCond .ne 4, 3), (143, .return_, 1), (144, .iload 4, 2), (146, .ifCond .le 130, 3), (149, .iload_n 3, 1), (150, .iconst 1, 1), (151, .if_icmp .le 125, 3), (154, .aload_n 0, 1), (155, .getfield 490, 3), (158, .invokestatic 293, 3), (161, .istore 6, 2), (163, .aload_n 0, 1), (164, .bipush 6, 2), (166, .iload_n 3, 1), (167, .iconst 1, 1), (168, .isub, 1), (169, .iconst 0, 1), (170, .invokevirtual 476, 3), (173, .ifCond .ne 4, 3), (176, .return_, 1), (177, .iconst 0, 1), (178, .istore 7, 2), (180, .iload 7, 2), (182, .bipush 16, 2), (184, .if_icmp .ge 39, 3), (187, .aload_n 0, 1), (188, .getfield 365, 3), (191, .bipush 16, 2), (193, .aload_n 0, 1), (194, .getfield 350, 3), (197, .iconst 1, 1), (198, .isub, 1), (199, .imul, 1), (200, .iload 7, 2), (202, .iadd, 1), (203, .aload_n 0, 1), (204, .getfield 314, 3), (207, .bipush 16, 2), (209, .iload 6, 2), (211, .imul, 1), (212, .iload 7, 2), (214, .iadd, 1), (215, .laload, 1), (216, .lastore, 1), (217, .iinc 7 1, 3), (220, .goto (-40), 3), (223, .aload_n 0, 1), (224, .getfield 359, 3), (227, .aload_n 0, 1), (228, .getfield 350, 3), (231, .iconst 1, 1), (232, .isub, 1), (233, .iload 4, 2), (235, .iastore, 1), (236, .aload_n 0, 1), (237, .getfield 362, 3), (240, .aload_n 0, 1), (241, .getfield 350, 3), (244, .iconst 1, 1), (245, .isub, 1), (246, .iload_n 2, 1), (247, .ifCond .eq 7, 3), (250, .iconst 1, 1), (251, .goto 4, 3), (254, .iconst 0, 1), (255, .iastore, 1), (256, .aload_n 0, 1), (257, .bipush 32, 2), (259, .invokevirtual 542, 3), (262, .ifCond .eq 13, 3), (265, .aload_n 0, 1), (266, .aload_n 0, 1), (267, .getfield 350, 3), (270, .iconst 1, 1), (271, .isub, 1), (272, .invokevirtual 551, 3), (275, .return_, 1), (276, .iconst 0, 1), (277, .istore 6, 2), (279, .iload 6, 2), (281, .iload 4, 2), (283, .if_icmp .ge 28, 3), (286, .aload_n 0, 1), (287, .bipush 32, 2), (289, .invokevirtual 542, 3), (292, .ifCond .eq 12, 3), (295, .aload_n 0, 1), (296, .bipush 46, 2), (298, .invokevirtual 542, 3), (301, .ifCond .ne 4, 3), (304, .return_, 1), (305, .iinc 6 1, 3), (308, .goto (-29), 3), (311, .iload 4, 2), (313, .ifCond .le 17, 3), (316, .iload_n 2, 1), (317, .ifCond .eq 13, 3), (320, .aload_n 0, 1), (321, .bipush 41, 2), (323, .invokevirtual 542, 3), (326, .ifCond .ne 4, 3), (329, .return_, 1), (330, .aload_n 0, 1), (331, .invokevirtual 553, 3), (334, .return_, 1)]
def x_220 : zCx := (6, false, 0, zCode i_220, [])
def b_220 : zS := (sSeq (sSeq (sSt 1 2 (eP (pB (kI .eq (p2 oIald (p1 (oGf 6 50 3) (pL 3 0)) (pL 1 1)) (pI 6)))))
  (sSeq (sSt 1 3 (eP (pIte (k0 .ne (pL 1 2)) (p2 oIald (p1 (oGf 6 51 3) (pL 3 0)) (pL 1 1)) (p2 oIald (p1 (oGf 6 52 3) (pL 3 0)) (pL 1 1)))))
  (sSeq (sPf (eP (pL 3 0)) 6 73 4 (eP (pI 0)))
  (sSeq (sSt 1 4 (eCall 210 [(eP (pL 3 0)), (eP (p1 (oGf 6 72 2) (pL 3 0)))]))
  (sSeq (sIfE (cL .eq (eCall 185 [(eP (p1 (oGf 6 72 2) (pL 3 0)))]) (eP (pJ 4294967296)))
  (sSt 1 5 (eCall 218 [(eP (pL 3 0)), (eCall 184 [(eP (p1 (oGf 6 72 2) (pL 3 0)))])]))
  (sIfE (cP (k0 .lt (pL 1 4)))
  (sSt 1 5 (eCall 217 [(eP (pL 3 0)), (eP (pI 63))]))
  (sSt 1 5 (eB (cAnd (cOr (cP (kOr (k0 .eq (pL 1 4)) (kNot (k0 .ne (pL 1 2))))) (c0 .ne (eCall 217 [(eP (pL 3 0)), (eP (pI 40))]))) (c0 .ne (eCall 219 [(eP (pL 3 0)), (eCall 211 [(eP (pL 3 0)), (eP (p1 (oGf 6 72 2) (pL 3 0)))])])))))))
  (sSeq (sIf (cP (kNot (k0 .ne (pL 1 5))))
  sRet0)
  (sSeq (sIf (cP (kAnd (k0 .gt (pL 1 4)) (kI .gt (pL 1 3) (pI 1))))
  (sBlk 6 (sSeq (sSt 1 6 (eCall 184 [(eP (p1 (oGf 6 72 2) (pL 3 0)))]))
  (sSeq (sIf (cNot (c0 .ne (eCall 198 [(eP (pL 3 0)), (eP (pI 6)), (eP (p2 oSub (pL 1 3) (pI 1))), (eP (pI 0))])))
  sRet0)
  (sSeq (sBlk 7 (sSeq (sSt 1 7 (eP (pI 0)))
  (sWh (cP (kI .lt (pL 1 7) (pI 16)))
  (sSe 4 (eP (p1 (oGf 6 55 3) (pL 3 0))) (eP (p2 oAdd (p2 oMul (pI 16) (p2 oSub (p1 (oGf 6 49 1) (pL 3 0)) (pI 1))) (pL 1 7))) (eP (p2 oLald (p1 (oGf 6 40 3) (pL 3 0)) (p2 oAdd (p2 oMul (pI 16) (pL 1 6)) (pL 1 7)))))
  (sInc 7 1))))
  (sSeq (sSe 1 (eP (p1 (oGf 6 53 3) (pL 3 0))) (eP (p2 oSub (p1 (oGf 6 49 1) (pL 3 0)) (pI 1))) (eP (pL 1 4)))
  (sSeq (sSe 1 (eP (p1 (oGf 6 54 3) (pL 3 0))) (eP (p2 oSub (p1 (oGf 6 49 1) (pL 3 0)) (pI 1))) (eP (pIte (k0 .ne (pL 1 2)) (pI 1) (pI 0))))
  (sSeq (sIf (c0 .ne (eCall 217 [(eP (pL 3 0)), (eP (pI 32))]))
  (sCall 154 [(eP (pL 3 0)), (eP (p2 oSub (p1 (oGf 6 49 1) (pL 3 0)) (pI 1)))]))
  sRet0))))))))
  (sSeq (sBlk 6 (sSeq (sSt 1 6 (eP (pI 0)))
  (sWh (cP (kI .lt (pL 1 6) (pL 1 4)))
  (sIf (cOr (cNot (c0 .ne (eCall 217 [(eP (pL 3 0)), (eP (pI 32))]))) (cNot (c0 .ne (eCall 217 [(eP (pL 3 0)), (eP (pI 46))]))))
  sRet0)
  (sInc 6 1))))
  (sSeq (sIf (cAnd (cP (kAnd (k0 .gt (pL 1 4)) (k0 .ne (pL 1 2)))) (cNot (c0 .ne (eCall 217 [(eP (pL 3 0)), (eP (pI 41))]))))
  sRet0)
  (sCall 221 [(eP (pL 3 0))]))))))))))
  sRet0)
theorem k_220 : b_220.1.1 x_220 (0, true, []) = some ((335, false, []), [], []) := by decide +kernel
/-- LazyFormsModel.whole -/
def i_221 : List (Nat × Instr × Nat) := [(0, .aload_n 0, 1), (1, .getfield 353, 3), (4, .aload_n 0, 1), (5, .getfield 350, 3), (8, .iconst 1, 1), (9, .isub, 1), (10, .iaload, 1), (11, .bipush 6, 2), (13, .if_icmp .ne 83, 3), (16, .aload_n 0, 1), (17, .getfield 350, 3), (20, .iconst 1, 1), (21, .isub, 1), (22, .istore_n 1, 1), (23, .aload_n 0, 1), (24, .getfield 356, 3), (27, .iload_n 1, 1), (28, .dup2, 1), (29, .iaload, 1), (30, .iconst 1, 1), (31, .iadd, 1), (32, .iastore, 1), (33, .aload_n 0, 1), (34, .getfield 356, 3), (37, .iload_n 1, 1), (38, .iaload, 1), (39, .aload_n 0, 1), (40, .getfield 359, 3), (43, .iload_n 1, 1), (44, .iaload, 1), (45, .if_icmp .ge 18, 3), (48, .aload_n 0, 1), (49, .bipush 32, 2), (51, .invokevirtual 542, 3), (54, .ifCond .eq 8, 3), (57, .aload_n 0, 1), (58, .iload_n 1, 1), (59, .invokevirtual 551, 3), (62, .return_, 1), (63, .aload_n 0, 1), (64, .getfield 362, 3), (67, .iload_n 1, 1), (68, .iaload, 1), (69, .iconst 1, 1), (70, .if_icmp .ne 13, 3), (73, .aload_n 0, 1), (74, .bipush 41, 2), (76, .invokevirtual 542, 3), (79, .ifCond .ne 4, 3), (82, .return_, 1), (83, .aload_n 0, 1), (84, .dup, 1), (85, .getfield 350, 3), (88, .iconst 1, 1), (89, .isub, 1), (90, .putfield 350, 3), (93, .goto (-93), 3), (96, .aload_n 0, 1), (97, .iconst 2, 1), (98, .putfield 415, 3), (101, .aload_n 0, 1), (102, .iconst 0, 1), (103, .putfield 350, 3), (106, .return_, 1)]
def x_221 : zCx := (6, false, 0, zCode i_221, [])
def b_221 : zS := (sSeq (sSeq (sWh (cP (kI .eq (p2 oIald (p1 (oGf 6 50 3) (pL 3 0)) (p2 oSub (p1 (oGf 6 49 1) (pL 3 0)) (pI 1))) (pI 6)))
  (sBlk 1 (sSeq (sSt 1 1 (eP (p2 oSub (p1 (oGf 6 49 1) (pL 3 0)) (pI 1))))
  (sSeq (sSeo (eP (p1 (oGf 6 52 3) (pL 3 0))) (eP (pL 1 1)) oAdd (eP (pI 1)))
  (sSeq (sIf (cP (kI .lt (p2 oIald (p1 (oGf 6 52 3) (pL 3 0)) (pL 1 1)) (p2 oIald (p1 (oGf 6 53 3) (pL 3 0)) (pL 1 1))))
  (sSeq (sIf (c0 .ne (eCall 217 [(eP (pL 3 0)), (eP (pI 32))]))
  (sCall 154 [(eP (pL 3 0)), (eP (pL 1 1))]))
  sRet0))
  (sSeq (sIf (cAnd (cP (kI .eq (p2 oIald (p1 (oGf 6 54 3) (pL 3 0)) (pL 1 1)) (pI 1))) (cNot (c0 .ne (eCall 217 [(eP (pL 3 0)), (eP (pI 41))]))))
  sRet0)
  (sPfo (eP (pL 3 0)) 6 49 1 oSub (eP (pI 1))))))))
  sSkip)
  (sSeq (sPf (eP (pL 3 0)) 6 68 1 (eP (pI 2)))
  (sPf (eP (pL 3 0)) 6 49 1 (eP (pI 0)))))
  sRet0)
theorem k_221 : b_221.1.1 x_221 (0, true, []) = some ((107, false, []), [], []) := by decide +kernel
/-- LazyFormsModel.<init> -/
def i_222 : List (Nat × Instr × Nat) := [(0, .aload_n 0, 1), (1, .invokespecial 556, 3), (4, .aload_n 0, 1), (5, .sipush 2000, 3), (8, .newarray .byte, 2), (10, .putfield 11, 3), (13, .aload_n 0, 1), (14, .sipush 8011, 3), (17, .newarray .byte, 2), (19, .putfield 22, 3), (22, .aload_n 0, 1), (23, .iconst 4, 1), (24, .newarray .int, 2), (26, .putfield 18, 3), (29, .aload_n 0, 1), (30, .sipush 2010, 3), (33, .newarray .int, 2), (35, .putfield 51, 3), (38, .aload_n 0, 1), (39, .sipush 2010, 3), (42, .newarray .int, 2), (44, .putfield 57, 3), (47, .aload_n 0, 1), (48, .sipush 2010, 3), (51, .newarray .int, 2), (53, .putfield 48, 3), (56, .aload_n 0, 1), (57, .sipush 16000, 3), (60, .newarray .int, 2), (62, .putfield 80, 3), (65, .aload_n 0, 1), (66, .sipush 16000, 3), (69, .newarray .int, 2), (71, .putfield 83, 3), (74, .aload_n 0, 1), (75, .sipush 16000, 3), (78, .newarray .int, 2), (80, .putfield 86, 3), (83, .aload_n 0, 1), (84, .sipush 16000, 3), (87, .newarray .int, 2), (89, .putfield 89, 3), (92, .aload_n 0, 1), (93, .sipush 16000, 3), (96, .newarray .int, 2), (98, .putfield 92, 3), (101, .aload_n 0, 1), (102, .sipush 16000, 3), (105, .newarray .int, 2), (107, .putfield 95, 3), (110, .aload_n 0, 1), (111, .sipush 16000, 3), (114, .newarray .int, 2), (116, .putfield 98, 3), (119, .aload_n 0, 1), (120, .sipush 16000, 3), (123, .newarray .int, 2), (125, .putfield 101, 3), (128, .aload_n 0, 1), (129, .sipush 2000, 3), (132, .newarray .int, 2), (134, .putfield 131, 3), (137, .aload_n 0, 1), (138, .sipush 16000, 3), (141, .newarray .int, 2), (143, .putfield 211, 3), (146, .aload_n 0, 1), (147, .sipush 2100, 3), (150, .newarray .int, 2), (152, .putfield 220, 3), (155, .aload_n 0, 1), (156, .sipush 2100, 3), (159, .newarray .int, 2), (161, .putfield 270, 3), (164, .aload_n 0, 1), (165, .bipush 40, 2), (167, .newarray .int, 2), (169, .putfield 204, 3), (172, .aload_n 0, 1), (173, .sipush 3200, 3), (176, .newarray .int, 2), (178, .putfield 303, 3), (181, .aload_n 0, 1), (182, .sipush 3200, 3), (185, .newarray .int, 2), (187, .putfield 341, 3), (190, .aload_n 0, 1), (191, .sipush 3200, 3), (194, .newarray .int, 2), (196, .putfield 344, 3), (199, .aload_n 0, 1), (200, .ldc_w 561, 3), (203, .newarray .long, 2), (205, .putfield 314, 3), (208, .aload_n 0, 1), (209, .sipush 3200, 3), (212, .newarray .boolean, 2), (214, .putfield 321, 3), (217, .aload_n 0, 1), (218, .sipush 3200, 3), (221, .newarray .int, 2), (223, .putfield 397, 3), (226, .aload_n 0, 1), (227, .sipush 3200, 3), (230, .newarray .int, 2), (232, .putfield 328, 3), (235, .aload_n 0, 1), (236, .bipush 40, 2), (238, .newarray .int, 2), (240, .putfield 311, 3), (243, .aload_n 0, 1), (244, .bipush 40, 2), (246, .newarray .long, 2), (248, .putfield 318, 3), (251, .aload_n 0, 1), (252, .sipush 400, 3), (255, .newarray .int, 2), (257, .putfield 353, 3), (260, .aload_n 0, 1), (261, .sipush 400, 3), (264, .newarray .int, 2), (266, .putfield 424, 3), (269, .aload_n 0, 1), (270, .sipush 400, 3), (273, .newarray .int, 2), (275, .putfield 356, 3), (278, .aload_n 0, 1), (279, .sipush 400, 3), (282, .newarray .int, 2), (284, .putfield 359, 3), (287, .aload_n 0, 1), (288, .sipush 400, 3), (291, .newarray .int, 2), (293, .putfield 362, 3), (296, .aload_n 0, 1), (297, .sipush 6400, 3), (300, .newarray .long, 2), (302, .putfield 365, 3), (305, .aload_n 0, 1), (306, .bipush 16, 2), (308, .newarray .long, 2), (310, .putfield 372, 3), (313, .aload_n 0, 1), (314, .bipush 16, 2), (316, .newarray .long, 2), (318, .putfield 388, 3), (321, .aload_n 0, 1), (322, .bipush 16, 2), (324, .newarray .long, 2), (326, .putfield 487, 3), (329, .aload_n 0, 1), (330, .bipush 16, 2), (332, .newarray .long, 2), (334, .putfield 562, 3), (337, .aload_n 0, 1), (338, .sipush 1000, 3), (341, .newarray .byte, 2), (343, .putfield 539, 3), (346, .aload_n 0, 1), (347, .iconst 2, 1), (348, .putfield 565, 3), (351, .aload_n 0, 1), (352, .iload_n 1, 1), (353, .bipush 10, 2), (355, .if_icmp .ge 8, 3), (358, .bipush 10, 2), (360, .goto 17, 3), (363, .iload_n 1, 1), (364, .sipush 1500, 3), (367, .if_icmp .le 9, 3), (370, .sipush 1500, 3), (373, .goto 4, 3), (376, .iload_n 1, 1), (377, .putfield 403, 3), (380, .sipush 8000, 3), (383, .istore_n 2, 1), (384, .ldc2_w 568, 3), (387, .lstore_n 3, 1), (388, .bipush 24, 2), (390, .istore 5, 2), (392, .iload 5, 2), (394, .ifCond .lt 24, 3), (397, .aload_n 0, 1), (398, .getfield 22, 3), (401, .iload_n 2, 1), (402, .lload_n 3, 1), (403, .iload 5, 2), (405, .lshr, 1), (406, .l2i, 1), (407, .i2b, 1), (408, .bastore, 1), (409, .iinc 2 1, 3), (412, .iinc 5 (-8), 3), (415, .goto (-23), 3), (418, .ldc2_w 570, 3), (421, .lstore_n 3, 1), (422, .bipush 32, 2), (424, .istore 5, 2), (426, .iload 5, 2), (428, .ifCond .lt 24, 3), (431, .aload_n 0, 1), (432, .getfield 22, 3), (435, .iload_n 2, 1), (436, .lload_n 3, 1), (437, .iload 5, 2), (439, .lshr, 1), (440, .l2i, 1), (441, .i2b, 1), (442, .bastore, 1), (443, .iinc 2 1, 3), (446, .iinc 5 (-8), 3), (449, .goto (-23), 3), (452, .return_, 1)]
def x_222 : zCx := (6, true, 0, zCode i_222, [])
def b_222 : zS := (sSeq sSup
  (sSeq (sPf (eP (pL 3 0)) 6 0 3 (eNewA .byte (pI 2000)))
  (sSeq (sPf (eP (pL 3 0)) 6 2 3 (eNewA .byte (pI 8011)))
  (sSeq (sPf (eP (pL 3 0)) 6 3 3 (eNewA .int (pI 4)))
  (sSeq (sPf (eP (pL 3 0)) 6 7 3 (eNewA .int (pI 2010)))
  (sSeq (sPf (eP (pL 3 0)) 6 8 3 (eNewA .int (pI 2010)))
  (sSeq (sPf (eP (pL 3 0)) 6 9 3 (eNewA .int (pI 2010)))
  (sSeq (sPf (eP (pL 3 0)) 6 11 3 (eNewA .int (pI 16000)))
  (sSeq (sPf (eP (pL 3 0)) 6 12 3 (eNewA .int (pI 16000)))
  (sSeq (sPf (eP (pL 3 0)) 6 13 3 (eNewA .int (pI 16000)))
  (sSeq (sPf (eP (pL 3 0)) 6 14 3 (eNewA .int (pI 16000)))
  (sSeq (sPf (eP (pL 3 0)) 6 15 3 (eNewA .int (pI 16000)))
  (sSeq (sPf (eP (pL 3 0)) 6 16 3 (eNewA .int (pI 16000)))
  (sSeq (sPf (eP (pL 3 0)) 6 17 3 (eNewA .int (pI 16000)))
  (sSeq (sPf (eP (pL 3 0)) 6 18 3 (eNewA .int (pI 16000)))
  (sSeq (sPf (eP (pL 3 0)) 6 24 3 (eNewA .int (pI 2000)))
  (sSeq (sPf (eP (pL 3 0)) 6 25 3 (eNewA .int (pI 16000)))
  (sSeq (sPf (eP (pL 3 0)) 6 28 3 (eNewA .int (pI 2100)))
  (sSeq (sPf (eP (pL 3 0)) 6 30 3 (eNewA .int (pI 2100)))
  (sSeq (sPf (eP (pL 3 0)) 6 32 3 (eNewA .int (pI 40)))
  (sSeq (sPf (eP (pL 3 0)) 6 37 3 (eNewA .int (pI 3200)))
  (sSeq (sPf (eP (pL 3 0)) 6 38 3 (eNewA .int (pI 3200)))
  (sSeq (sPf (eP (pL 3 0)) 6 39 3 (eNewA .int (pI 3200)))
  (sSeq (sPf (eP (pL 3 0)) 6 40 3 (eNewA .long (pI 51200)))
  (sSeq (sPf (eP (pL 3 0)) 6 41 3 (eNewA .boolean (pI 3200)))
  (sSeq (sPf (eP (pL 3 0)) 6 42 3 (eNewA .int (pI 3200)))
  (sSeq (sPf (eP (pL 3 0)) 6 44 3 (eNewA .int (pI 3200)))
  (sSeq (sPf (eP (pL 3 0)) 6 47 3 (eNewA .int (pI 40)))
  (sSeq (sPf (eP (pL 3 0)) 6 48 3 (eNewA .long (pI 40)))
  (sSeq (sPf (eP (pL 3 0)) 6 50 3 (eNewA .int (pI 400)))
  (sSeq (sPf (eP (pL 3 0)) 6 51 3 (eNewA .int (pI 400)))
  (sSeq (sPf (eP (pL 3 0)) 6 52 3 (eNewA .int (pI 400)))
  (sSeq (sPf (eP (pL 3 0)) 6 53 3 (eNewA .int (pI 400)))
  (sSeq (sPf (eP (pL 3 0)) 6 54 3 (eNewA .int (pI 400)))
  (sSeq (sPf (eP (pL 3 0)) 6 55 3 (eNewA .long (pI 6400)))
  (sSeq (sPf (eP (pL 3 0)) 6 58 3 (eNewA .long (pI 16)))
  (sSeq (sPf (eP (pL 3 0)) 6 62 3 (eNewA .long (pI 16)))
  (sSeq (sPf (eP (pL 3 0)) 6 71 3 (eNewA .long (pI 16)))
  (sSeq (sPf (eP (pL 3 0)) 6 74 3 (eNewA .long (pI 16)))
  (sSeq (sPf (eP (pL 3 0)) 6 76 3 (eNewA .byte (pI 1000)))
  (sSeq (sPf (eP (pL 3 0)) 6 78 1 (eP (pI 2)))
  (sSeq (sSeq (sPf (eP (pL 3 0)) 6 36 1 (eP (pIte (kI .lt (pL 1 1) (pI 10)) (pI 10) (pIte (kI .gt (pL 1 1) (pI 1500)) (pI 1500) (pL 1 1)))))
  (sSeq (sSt 1 2 (eP (pI 8000)))
  (sSeq (sSt 2 3 (eP (pJ 1416787301)))
  (sSeq (sBlk 5 (sSeq (sSt 1 5 (eP (pI 24)))
  (sWh (cP (k0 .ge (pL 1 5)))
  (sSeq (sSe 2 (eP (p1 (oGf 6 2 3) (pL 3 0))) (eP (pL 1 2)) (eP (p1 oI2b (p1 oL2i (p2 oLshr (pL 2 3) (pL 1 5))))))
  (sInc 2 1))
  (sInc 5 (-8)))))
  (sSeq (sSt 2 3 (eP (pJ 302282208101)))
  (sBlk 5 (sSeq (sSt 1 5 (eP (pI 32)))
  (sWh (cP (k0 .ge (pL 1 5)))
  (sSeq (sSe 2 (eP (p1 (oGf 6 2 3) (pL 3 0))) (eP (pL 1 2)) (eP (p1 oI2b (p1 oL2i (p2 oLshr (pL 2 3) (pL 1 5))))))
  (sInc 2 1))
  (sInc 5 (-8))))))))))
  sRet0))))))))))))))))))))))))))))))))))))))))))
theorem k_222 : b_222.1.1 x_222 (0, true, []) = some ((453, false, []), [], []) := by decide +kernel
/-- LazyFormsModel.reads -/
def i_223 : List (Nat × Instr × Nat) := [(0, .aload_n 0, 1), (1, .iload_n 1, 1), (2, .putfield 15, 3), (5, .aload_n 0, 1), (6, .getfield 18, 3), (9, .iload_n 1, 1), (10, .iload_n 2, 1), (11, .iastore, 1), (12, .iconst 0, 1), (13, .istore 4, 2), (15, .iload 4, 2), (17, .iload_n 2, 1), (18, .if_icmp .ge 29, 3), (21, .aload_n 0, 1), (22, .getfield 22, 3), (25, .sipush 2000, 3), (28, .iload_n 1, 1), (29, .imul, 1), (30, .iload 4, 2), (32, .iadd, 1), (33, .aload_n 0, 1), (34, .getfield 11, 3), (37, .iload 4, 2), (39, .baload, 1), (40, .bastore, 1), (41, .iinc 4 1, 3), (44, .goto (-29), 3), (47, .aload_n 0, 1), (48, .iconst 0, 1), (49, .putfield 1, 3), (52, .aload_n 0, 1), (53, .iconst 1, 1), (54, .putfield 572, 3), (57, .aload_n 0, 1), (58, .iconst 0, 1), (59, .putfield 104, 3), (62, .aload_n 0, 1), (63, .iconst (-1), 1), (64, .putfield 107, 3), (67, .aload_n 0, 1), (68, .iload_n 3, 1), (69, .invokevirtual 575, 3), (72, .ireturn, 1)]
def x_223 : zCx := (6, false, 4, zCode i_223, [])
def b_223 : zS := (sSeq (sPf (eP (pL 3 0)) 6 4 1 (eP (pL 1 1)))
  (sSeq (sSe 1 (eP (p1 (oGf 6 3 3) (pL 3 0))) (eP (pL 1 1)) (eP (pL 1 2)))
  (sSeq (sBlk 4 (sSeq (sSt 1 4 (eP (pI 0)))
  (sWh (cP (kI .lt (pL 1 4) (pL 1 2)))
  (sSe 2 (eP (p1 (oGf 6 2 3) (pL 3 0))) (eP (p2 oAdd (p2 oMul (pI 2000) (pL 1 1)) (pL 1 4))) (eBy (p1 (oGf 6 0 3) (pL 3 0)) (pL 1 4)))
  (sInc 4 1))))
  (sSeq (sPf (eP (pL 3 0)) 6 1 1 (eP (pI 0)))
  (sSeq (sPf (eP (pL 3 0)) 6 21 4 (eP (pI 1)))
  (sSeq (sPf (eP (pL 3 0)) 6 19 1 (eP (pI 0)))
  (sSeq (sPf (eP (pL 3 0)) 6 20 1 (eP (pI (-1))))
  (sRet 4 (eCall 182 [(eP (pL 3 0)), (eP (pL 1 3))])))))))))
theorem k_223 : b_223.1.1 x_223 (0, true, []) = some ((73, false, []), [], []) := by decide +kernel
/-- LazyFormsModel.load -/
def i_224 : List (Nat × Instr × Nat) := [(0, .iload_n 1, 1), (1, .ifCond .lt 11, 3), (4, .iload_n 1, 1), (5, .aload_n 0, 1), (6, .getfield 1, 3), (9, .if_icmp .le 6, 3), (12, .bipush (-2), 2), (14, .ireturn, 1), (15, .aload_n 0, 1), (16, .iconst 1, 1), (17, .aload_n 0, 1), (18, .getfield 579, 3), (21, .isub, 1), (22, .iload_n 1, 1), (23, .iconst 0, 1), (24, .invokevirtual 582, 3), (27, .ifCond .ne 5, 3), (30, .iconst (-1), 1), (31, .ireturn, 1), (32, .aload_n 0, 1), (33, .iconst 1, 1), (34, .aload_n 0, 1), (35, .getfield 579, 3), (38, .isub, 1), (39, .putfield 579, 3), (42, .aload_n 0, 1), (43, .iconst 1, 1), (44, .putfield 586, 3), (47, .aload_n 0, 1), (48, .aload_n 0, 1), (49, .getfield 128, 3), (52, .putfield 201, 3), (55, .iconst 0, 1), (56, .istore_n 2, 1), (57, .iload_n 2, 1), (58, .aload_n 0, 1), (59, .getfield 201, 3), (62, .if_icmp .ge 28, 3), (65, .aload_n 0, 1), (66, .getfield 204, 3), (69, .iload_n 2, 1), (70, .aload_n 0, 1), (71, .getfield 131, 3), (74, .iload_n 2, 1), (75, .iaload, 1), (76, .iastore, 1), (77, .aload_n 0, 1), (78, .getfield 311, 3), (81, .iload_n 2, 1), (82, .iconst 0, 1), (83, .iastore, 1), (84, .iinc 2 1, 3), (87, .goto (-30), 3), (90, .aload_n 0, 1), (91, .iconst 0, 1), (92, .putfield 415, 3), (95, .aload_n 0, 1), (96, .iconst 0, 1), (97, .putfield 350, 3), (100, .aload_n 0, 1), (101, .iconst 0, 1), (102, .putfield 375, 3), (105, .aload_n 0, 1), (106, .iconst 0, 1), (107, .putfield 385, 3), (110, .aload_n 0, 1), (111, .iconst 0, 1), (112, .invokevirtual 406, 3), (115, .aload_n 0, 1), (116, .invokevirtual 589, 3), (119, .aload_n 0, 1), (120, .getfield 201, 3), (123, .ireturn, 1)]
def x_224 : zCx := (6, false, 1, zCode i_224, [])
def b_224 : zS := (sSeq (sIf (cP (kOr (k0 .lt (pL 1 1)) (kI .gt (pL 1 1) (p1 (oGf 6 1 1) (pL 3 0)))))
  (sRet 1 (eP (pI (-2)))))
  (sSeq (sIf (cNot (c0 .ne (eCall 223 [(eP (pL 3 0)), (eP (p2 oSub (pI 1) (p1 (oGf 6 77 1) (pL 3 0)))), (eP (pL 1 1)), (eP (pI 0))])))
  (sRet 1 (eP (pI (-1)))))
  (sSeq (sPf (eP (pL 3 0)) 6 77 1 (eP (p2 oSub (pI 1) (p1 (oGf 6 77 1) (pL 3 0)))))
  (sSeq (sPf (eP (pL 3 0)) 6 80 4 (eP (pI 1)))
  (sSeq (sPf (eP (pL 3 0)) 6 31 1 (eP (p1 (oGf 6 23 1) (pL 3 0))))
  (sSeq (sBlk 2 (sSeq (sSt 1 2 (eP (pI 0)))
  (sWh (cP (kI .lt (pL 1 2) (p1 (oGf 6 31 1) (pL 3 0))))
  (sSeq (sSe 1 (eP (p1 (oGf 6 32 3) (pL 3 0))) (eP (pL 1 2)) (eP (p2 oIald (p1 (oGf 6 24 3) (pL 3 0)) (pL 1 2))))
  (sSe 1 (eP (p1 (oGf 6 47 3) (pL 3 0))) (eP (pL 1 2)) (eP (pI 0))))
  (sInc 2 1))))
  (sSeq (sPf (eP (pL 3 0)) 6 68 1 (eP (pI 0)))
  (sSeq (sPf (eP (pL 3 0)) 6 49 1 (eP (pI 0)))
  (sSeq (sPf (eP (pL 3 0)) 6 56 4 (eP (pI 0)))
  (sSeq (sPf (eP (pL 3 0)) 6 61 1 (eP (pI 0)))
  (sSeq (sCall 194 [(eP (pL 3 0)), (eP (pI 0))])
  (sSeq (sCall 225 [(eP (pL 3 0))])
  (sRet 1 (eP (p1 (oGf 6 31 1) (pL 3 0))))))))))))))))
theorem k_224 : b_224.1.1 x_224 (0, true, []) = some ((124, false, []), [], []) := by decide +kernel
/-- LazyFormsModel.clear -/
def i_225 : List (Nat × Instr × Nat) := [(0, .aload_n 0, 1), (1, .iconst 0, 1), (2, .putfield 465, 3), (5, .aload_n 0, 1), (6, .iconst 0, 1), (7, .putfield 412, 3), (10, .aload_n 0, 1), (11, .iconst 0, 1), (12, .putfield 514, 3), (15, .aload_n 0, 1), (16, .iconst 0, 1), (17, .putfield 520, 3), (20, .aload_n 0, 1), (21, .iconst 0, 1), (22, .putfield 427, 3), (25, .aload_n 0, 1), (26, .iconst 0, 1), (27, .putfield 536, 3), (30, .aload_n 0, 1), (31, .iconst (-1), 1), (32, .putfield 421, 3), (35, .aload_n 0, 1), (36, .iconst (-1), 1), (37, .putfield 418, 3), (40, .return_, 1)]
def x_225 : zCx := (6, false, 0, zCode i_225, [])
def b_225 : zS := (sSeq (sSeq (sPf (eP (pL 3 0)) 6 66 1 (eP (pI 0)))
  (sSeq (sPf (eP (pL 3 0)) 6 63 1 (eP (pI 0)))
  (sSeq (sPf (eP (pL 3 0)) 6 64 1 (eP (pI 0)))
  (sSeq (sPf (eP (pL 3 0)) 6 65 1 (eP (pI 0)))
  (sSeq (sPf (eP (pL 3 0)) 6 67 1 (eP (pI 0)))
  (sSeq (sPf (eP (pL 3 0)) 6 75 1 (eP (pI 0)))
  (sSeq (sPf (eP (pL 3 0)) 6 69 1 (eP (pI (-1))))
  (sPf (eP (pL 3 0)) 6 70 1 (eP (pI (-1)))))))))))
  sRet0)
theorem k_225 : b_225.1.1 x_225 (0, true, []) = some ((41, false, []), [], []) := by decide +kernel
/-- LazyFormsModel.ask -/
def i_226 : List (Nat × Instr × Nat) := [(0, .iload_n 1, 1), (1, .ifCond .lt 11, 3), (4, .iload_n 1, 1), (5, .aload_n 0, 1), (6, .getfield 1, 3), (9, .if_icmp .le 5, 3), (12, .iconst 0, 1), (13, .ireturn, 1), (14, .iload_n 2, 1), (15, .iconst 1, 1), (16, .bipush 9, 2), (18, .invokestatic 257, 3), (21, .ifCond .eq 10, 3), (24, .aload_n 0, 1), (25, .getfield 586, 3), (28, .ifCond .ne 10, 3), (31, .aload_n 0, 1), (32, .iconst 0, 1), (33, .putfield 1, 3), (36, .iconst 0, 1), (37, .ireturn, 1), (38, .aload_n 0, 1), (39, .iconst 5, 1), (40, .aload_n 0, 1), (41, .getfield 565, 3), (44, .isub, 1), (45, .iload_n 1, 1), (46, .iconst 1, 1), (47, .invokevirtual 582, 3), (50, .ifCond .ne 5, 3), (53, .iconst 0, 1), (54, .ireturn, 1), (55, .aload_n 0, 1), (56, .iconst 5, 1), (57, .aload_n 0, 1), (58, .getfield 565, 3), (61, .isub, 1), (62, .putfield 565, 3), (65, .aload_n 0, 1), (66, .invokevirtual 589, 3), (69, .aload_n 0, 1), (70, .iconst 1, 1), (71, .putfield 415, 3), (74, .aload_n 0, 1), (75, .iconst 0, 1), (76, .putfield 350, 3), (79, .aload_n 0, 1), (80, .iconst 0, 1), (81, .putfield 385, 3), (84, .aload_n 0, 1), (85, .iconst 0, 1), (86, .putfield 375, 3), (89, .aload_n 0, 1), (90, .iconst 0, 1), (91, .iconst 0, 1), (92, .iload_n 2, 1), (93, .invokevirtual 476, 3), (96, .istore_n 3, 1), (97, .aload_n 0, 1), (98, .aload_n 0, 1), (99, .getfield 280, 3), (102, .putfield 462, 3), (105, .aload_n 0, 1), (106, .iconst 0, 1), (107, .invokevirtual 406, 3), (110, .iload_n 3, 1), (111, .ireturn, 1)]
def x_226 : zCx := (6, false, 4, zCode i_226, [])
def b_226 : zS := (sSeq (sIf (cP (kOr (k0 .lt (pL 1 1)) (kI .gt (pL 1 1) (p1 (oGf 6 1 1) (pL 3 0)))))
  (sRet 4 (eP (pI 0))))
  (sSeq (sIf (cOr (cNot (c0 .ne (eCall 130 [(eP (pL 1 2)), (eP (pI 1)), (eP (pI 9))]))) (cP (kNot (k0 .ne (p1 (oGf 6 80 4) (pL 3 0))))))
  (sSeq (sPf (eP (pL 3 0)) 6 1 1 (eP (pI 0)))
  (sRet 4 (eP (pI 0)))))
  (sSeq (sIf (cNot (c0 .ne (eCall 223 [(eP (pL 3 0)), (eP (p2 oSub (pI 5) (p1 (oGf 6 78 1) (pL 3 0)))), (eP (pL 1 1)), (eP (pI 1))])))
  (sRet 4 (eP (pI 0))))
  (sSeq (sPf (eP (pL 3 0)) 6 78 1 (eP (p2 oSub (pI 5) (p1 (oGf 6 78 1) (pL 3 0)))))
  (sSeq (sCall 225 [(eP (pL 3 0))])
  (sSeq (sPf (eP (pL 3 0)) 6 68 1 (eP (pI 1)))
  (sSeq (sPf (eP (pL 3 0)) 6 49 1 (eP (pI 0)))
  (sSeq (sPf (eP (pL 3 0)) 6 61 1 (eP (pI 0)))
  (sSeq (sPf (eP (pL 3 0)) 6 56 4 (eP (pI 0)))
  (sSeq (sSt 1 3 (eCall 198 [(eP (pL 3 0)), (eP (pI 0)), (eP (pI 0)), (eP (pL 1 2))]))
  (sSeq (sPf (eP (pL 3 0)) 6 57 1 (eP (p1 (oGf 6 35 1) (pL 3 0))))
  (sSeq (sCall 194 [(eP (pL 3 0)), (eP (pI 0))])
  (sRet 4 (eP (pL 1 3)))))))))))))))
theorem k_226 : b_226.1.1 x_226 (0, true, []) = some ((112, false, []), [], []) := by decide +kernel
/-- LazyFormsModel.fault -/
def i_227 : List (Nat × Instr × Nat) := [(0, .aload_n 0, 1), (1, .getfield 572, 3), (4, .ifCond .ne 7, 3), (7, .iconst (-1), 1), (8, .goto 34, 3), (11, .iload_n 1, 1), (12, .ifCond .ne 10, 3), (15, .aload_n 0, 1), (16, .getfield 104, 3), (19, .goto 23, 3), (22, .iload_n 1, 1), (23, .iconst 1, 1), (24, .if_icmp .ne 17, 3), (27, .aload_n 0, 1), (28, .getfield 104, 3), (31, .ifCond .le 10, 3), (34, .aload_n 0, 1), (35, .getfield 107, 3), (38, .goto 4, 3), (41, .iconst (-1), 1), (42, .ireturn, 1)]
def x_227 : zCx := (6, false, 1, zCode i_227, [])
def b_227 : zS := (sRet 1 (eP (pIte (kNot (k0 .ne (p1 (oGf 6 21 4) (pL 3 0)))) (pI (-1)) (pIte (k0 .eq (pL 1 1)) (p1 (oGf 6 19 1) (pL 3 0)) (pIte (kAnd (kI .eq (pL 1 1) (pI 1)) (k0 .gt (p1 (oGf 6 19 1) (pL 3 0)))) (p1 (oGf 6 20 1) (pL 3 0)) (pI (-1)))))))
theorem k_227 : b_227.1.1 x_227 (0, true, []) = some ((43, false, []), [], []) := by decide +kernel
/-- LazyFormsModel.run -/
def i_228 : List (Nat × Instr × Nat) := [(0, .iload_n 1, 1), (1, .iconst 0, 1), (2, .sipush 20000, 3), (5, .invokestatic 257, 3), (8, .ifCond .eq 10, 3), (11, .aload_n 0, 1), (12, .getfield 415, 3), (15, .ifCond .ne 5, 3), (18, .iconst (-1), 1), (19, .ireturn, 1), (20, .iconst 0, 1), (21, .istore_n 2, 1), (22, .iload_n 2, 1), (23, .iload_n 1, 1), (24, .if_icmp .ge 21, 3), (27, .aload_n 0, 1), (28, .getfield 415, 3), (31, .iconst 1, 1), (32, .if_icmp .ne 13, 3), (35, .aload_n 0, 1), (36, .invokevirtual 592, 3), (39, .iinc 2 1, 3), (42, .goto (-20), 3), (45, .aload_n 0, 1), (46, .getfield 415, 3), (49, .ireturn, 1)]
def x_228 : zCx := (6, false, 1, zCode i_228, [])
def b_228 : zS := (sSeq (sIf (cOr (cNot (c0 .ne (eCall 130 [(eP (pL 1 1)), (eP (pI 0)), (eP (pI 20000))]))) (cP (k0 .eq (p1 (oGf 6 68 1) (pL 3 0)))))
  (sRet 1 (eP (pI (-1)))))
  (sSeq (sBlk 2 (sSeq (sSt 1 2 (eP (pI 0)))
  (sWh (cP (kAnd (kI .lt (pL 1 2) (pL 1 1)) (kI .eq (p1 (oGf 6 68 1) (pL 3 0)) (pI 1))))
  (sCall 202 [(eP (pL 3 0))])
  (sInc 2 1))))
  (sRet 1 (eP (p1 (oGf 6 68 1) (pL 3 0))))))
theorem k_228 : b_228.1.1 x_228 (0, true, []) = some ((50, false, []), [], []) := by decide +kernel
/-- LazyFormsModel.about -/
def i_229 : List (Nat × Instr × Nat) := [(0, .iload_n 1, 1), (1, .tableswitch 149 0 9 #[55, 60, 65, 70, 75, 80, 85, 90, 107, 144], 55), (56, .aload_n 0, 1), (57, .getfield 415, 3), (60, .ireturn, 1), (61, .aload_n 0, 1), (62, .getfield 465, 3), (65, .ireturn, 1), (66, .aload_n 0, 1), (67, .getfield 412, 3), (70, .ireturn, 1), (71, .aload_n 0, 1), (72, .getfield 514, 3), (75, .ireturn, 1), (76, .aload_n 0, 1), (77, .getfield 520, 3), (80, .ireturn, 1), (81, .aload_n 0, 1), (82, .getfield 350, 3), (85, .ireturn, 1), (86, .aload_n 0, 1), (87, .getfield 427, 3), (90, .ireturn, 1), (91, .aload_n 0, 1), (92, .getfield 415, 3), (95, .iconst 2, 1), (96, .if_icmp .le 10, 3), (99, .aload_n 0, 1), (100, .getfield 421, 3), (103, .goto 4, 3), (106, .iconst (-1), 1), (107, .ireturn, 1), (108, .aload_n 0, 1), (109, .aload_n 0, 1), (110, .getfield 415, 3), (113, .iconst 1, 1), (114, .if_icmp .ne 22, 3), (117, .aload_n 0, 1), (118, .getfield 375, 3), (121, .ifCond .ne 15, 3), (124, .aload_n 0, 1), (125, .getfield 98, 3), (128, .aload_n 0, 1), (129, .getfield 462, 3), (132, .iaload, 1), (133, .goto 4, 3), (136, .iconst 0, 1), (137, .invokevirtual 406, 3), (140, .aload_n 0, 1), (141, .getfield 325, 3), (144, .ireturn, 1), (145, .aload_n 0, 1), (146, .getfield 536, 3), (149, .ireturn, 1), (150, .iconst (-1), 1), (151, .ireturn, 1)]
def x_229 : zCx := (6, false, 1, zCode i_229, [])
def b_229 : zS := (sSw (eP (pL 1 1)) [(0, 0), (1, 1), (2, 2), (3, 3), (4, 4), (5, 5), (6, 6), (7, 7), (8, 8), (9, 9)] 10 [(sRet 1 (eP (p1 (oGf 6 68 1) (pL 3 0)))),
  (sRet 1 (eP (p1 (oGf 6 66 1) (pL 3 0)))),
  (sRet 1 (eP (p1 (oGf 6 63 1) (pL 3 0)))),
  (sRet 1 (eP (p1 (oGf 6 64 1) (pL 3 0)))),
  (sRet 1 (eP (p1 (oGf 6 65 1) (pL 3 0)))),
  (sRet 1 (eP (p1 (oGf 6 49 1) (pL 3 0)))),
  (sRet 1 (eP (p1 (oGf 6 67 1) (pL 3 0)))),
  (sRet 1 (eP (pIte (kI .gt (p1 (oGf 6 68 1) (pL 3 0)) (pI 2)) (p1 (oGf 6 69 1) (pL 3 0)) (pI (-1))))),
  (sSeq (sCall 194 [(eP (pL 3 0)), (eP (pIte (kAnd (kI .eq (p1 (oGf 6 68 1) (pL 3 0)) (pI 1)) (kNot (k0 .ne (p1 (oGf 6 56 4) (pL 3 0))))) (p2 oIald (p1 (oGf 6 17 3) (pL 3 0)) (p1 (oGf 6 57 1) (pL 3 0))) (pI 0)))])
  (sRet 1 (eP (p1 (oGf 6 60 1) (pL 3 0))))),
  (sRet 1 (eP (p1 (oGf 6 75 1) (pL 3 0)))),
  (sRet 1 (eP (pI (-1))))])
theorem k_229 : b_229.1.1 x_229 (0, true, []) = some ((152, false, []), [], []) := by decide +kernel
/-- LazyFormsModel.octet -/
def i_230 : List (Nat × Instr × Nat) := [(0, .iload_n 1, 1), (1, .iconst 0, 1), (2, .aload_n 0, 1), (3, .getfield 536, 3), (6, .iconst 1, 1), (7, .isub, 1), (8, .invokestatic 257, 3), (11, .ifCond .eq 12, 3), (14, .aload_n 0, 1), (15, .getfield 539, 3), (18, .iload_n 1, 1), (19, .baload, 1), (20, .goto 4, 3), (23, .iconst (-1), 1), (24, .ireturn, 1)]
def x_230 : zCx := (6, false, 1, zCode i_230, [])
def b_230 : zS := (sRet 1 (eIte (c0 .ne (eCall 130 [(eP (pL 1 1)), (eP (pI 0)), (eP (p2 oSub (p1 (oGf 6 75 1) (pL 3 0)) (pI 1)))])) (eP (p2 oBald (p1 (oGf 6 76 3) (pL 3 0)) (pL 1 1))) (eP (pI (-1)))))
theorem k_230 : b_230.1.1 x_230 (0, true, []) = some ((25, false, []), [], []) := by decide +kernel
/-- LazyFormsModel.definition -/
def i_231 : List (Nat × Instr × Nat) := [(0, .iload_n 1, 1), (1, .iconst 0, 1), (2, .aload_n 0, 1), (3, .getfield 201, 3), (6, .iconst 1, 1), (7, .isub, 1), (8, .invokestatic 257, 3), (11, .ifCond .ne 5, 3), (14, .iconst (-1), 1), (15, .ireturn, 1), (16, .aload_n 0, 1), (17, .getfield 83, 3), (20, .aload_n 0, 1), (21, .getfield 204, 3), (24, .iload_n 1, 1), (25, .iaload, 1), (26, .iaload, 1), (27, .istore_n 3, 1), (28, .iconst 0, 1), (29, .istore 4, 2), (31, .iload_n 2, 1), (32, .ifCond .ne 39, 3), (35, .aload_n 0, 1), (36, .getfield 86, 3), (39, .aload_n 0, 1), (40, .getfield 204, 3), (43, .iload_n 1, 1), (44, .iaload, 1), (45, .iaload, 1), (46, .istore 5, 2), (48, .iload 5, 2), (50, .ifCond .lt 18, 3), (53, .iinc 4 1, 3), (56, .aload_n 0, 1), (57, .getfield 92, 3), (60, .iload 5, 2), (62, .iaload, 1), (63, .istore 5, 2), (65, .goto (-17), 3), (68, .iload 4, 2), (70, .ireturn, 1), (71, .iload_n 2, 1), (72, .iconst 1, 1), (73, .if_icmp .ne 24, 3), (76, .aload_n 0, 1), (77, .iload_n 1, 1), (78, .invokevirtual 308, 3), (81, .ifCond .eq 7, 3), (84, .iconst 1, 1), (85, .goto 11, 3), (88, .iconst 2, 1), (89, .aload_n 0, 1), (90, .getfield 311, 3), (93, .iload_n 1, 1), (94, .iaload, 1), (95, .iadd, 1), (96, .ireturn, 1), (97, .aload_n 0, 1), (98, .iload_n 3, 1), (99, .invokevirtual 74, 3), (102, .istore 4, 2), (104, .iload_n 2, 1), (105, .iconst 2, 1), (106, .if_icmp .ne 8, 3), (109, .iload 4, 2), (111, .goto 32, 3), (114, .iload_n 2, 1), (115, .bipush 10, 2), (117, .bipush 9, 2), (119, .iload 4, 2), (121, .iadd, 1), (122, .invokestatic 257, 3), (125, .ifCond .eq 17, 3), (128, .aload_n 0, 1), (129, .getfield 22, 3), (132, .iload_n 3, 1), (133, .iload_n 2, 1), (134, .iadd, 1), (135, .bipush 10, 2), (137, .isub, 1), (138, .baload, 1), (139, .goto 4, 3), (142, .iconst (-1), 1), (143, .ireturn, 1)]
def x_231 : zCx := (6, false, 1, zCode i_231, [])
def b_231 : zS := (sSeq (sIf (cNot (c0 .ne (eCall 130 [(eP (pL 1 1)), (eP (pI 0)), (eP (p2 oSub (p1 (oGf 6 31 1) (pL 3 0)) (pI 1)))])))
  (sRet 1 (eP (pI (-1)))))
  (sSeq (sSt 1 3 (eP (p2 oIald (p1 (oGf 6 12 3) (pL 3 0)) (p2 oIald (p1 (oGf 6 32 3) (pL 3 0)) (pL 1 1)))))
  (sSeq (sSt 1 4 (eP (pI 0)))
  (sSeq (sIf (cP (k0 .eq (pL 1 2)))
  (sSeq (sBlk 5 (sSeq (sSt 1 5 (eP (p2 oIald (p1 (oGf 6 13 3) (pL 3 0)) (p2 oIald (p1 (oGf 6 32 3) (pL 3 0)) (pL 1 1)))))
  (sWh (cP (k0 .ge (pL 1 5)))
  (sInc 4 1)
  (sSt 1 5 (eP (p2 oIald (p1 (oGf 6 15 3) (pL 3 0)) (pL 1 5)))))))
  (sRet 1 (eP (pL 1 4)))))
  (sSeq (sIf (cP (kI .eq (pL 1 2) (pI 1)))
  (sRet 1 (eIte (c0 .ne (eCall 187 [(eP (pL 3 0)), (eP (pL 1 1))])) (eP (pI 1)) (eP (p2 oAdd (pI 2) (p2 oIald (p1 (oGf 6 47 3) (pL 3 0)) (pL 1 1)))))))
  (sSeq (sSt 1 4 (eCall 142 [(eP (pL 3 0)), (eP (pL 1 3))]))
  (sRet 1 (eIte (cP (kI .eq (pL 1 2) (pI 2))) (eP (pL 1 4)) (eIte (c0 .ne (eCall 130 [(eP (pL 1 2)), (eP (pI 10)), (eP (p2 oAdd (pI 9) (pL 1 4)))])) (eP (p2 oBald (p1 (oGf 6 2 3) (pL 3 0)) (p2 oSub (p2 oAdd (pL 1 3) (pL 1 2)) (pI 10)))) (eP (pI (-1))))))))))))
theorem k_231 : b_231.1.1 x_231 (0, true, []) = some ((144, false, []), [], []) := by decide +kernel
/-- LazyFormsLaw.cell -/
def i_232 : List (Nat × Instr × Nat) := [(0, .iload_n 1, 1), (1, .aload_n 0, 1), (2, .arraylength, 1), (3, .if_icmp .ge 9, 3), (6, .aload_n 0, 1), (7, .iload_n 1, 1), (8, .iaload, 1), (9, .goto 4, 3), (12, .iconst 0, 1), (13, .ireturn, 1)]
def x_232 : zCx := (8, false, 1, zCode i_232, [])
def b_232 : zS := (sRet 1 (eP (pIte (kI .lt (pL 1 1) (p1 oAlen (pL 3 0))) (p2 oIald (pL 3 0) (pL 1 1)) (pI 0))))
theorem k_232 : b_232.1.1 x_232 (0, true, []) = some ((14, false, []), [], []) := by decide +kernel
/-- LazyFormsLaw.law -/
def i_233 : List (Nat × Instr × Nat) := [(0, .new 7, 3), (3, .dup, 1), (4, .aload_n 0, 1), (5, .iconst 0, 1), (6, .invokestatic 9, 3), (9, .invokespecial 15, 3), (12, .astore_n 1, 1), (13, .new 18, 3), (16, .dup, 1), (17, .aload_n 0, 1), (18, .iconst 0, 1), (19, .invokestatic 9, 3), (22, .invokespecial 20, 3), (25, .astore_n 2, 1), (26, .iconst 1, 1), (27, .istore_n 3, 1), (28, .iload_n 3, 1), (29, .aload_n 0, 1), (30, .arraylength, 1), (31, .bipush 6, 2), (33, .isub, 1), (34, .if_icmp .gt 304, 3), (37, .aload_n 0, 1), (38, .iload_n 3, 1), (39, .iaload, 1), (40, .bipush 7, 2), (42, .iand, 1), (43, .tableswitch 289 0 7 #[45, 108, 131, 164, 187, 210, 233, 256], 45), (88, .aload_n 1, 1), (89, .aload_n 0, 1), (90, .iload_n 3, 1), (91, .iconst 1, 1), (92, .iadd, 1), (93, .iaload, 1), (94, .aload_n 0, 1), (95, .iload_n 3, 1), (96, .iconst 2, 1), (97, .iadd, 1), (98, .iaload, 1), (99, .aload_n 0, 1), (100, .iload_n 3, 1), (101, .iconst 3, 1), (102, .iadd, 1), (103, .iaload, 1), (104, .aload_n 0, 1), (105, .iload_n 3, 1), (106, .iconst 4, 1), (107, .iadd, 1), (108, .iaload, 1), (109, .aload_n 0, 1), (110, .iload_n 3, 1), (111, .iconst 5, 1), (112, .iadd, 1), (113, .iaload, 1), (114, .invokevirtual 21, 3), (117, .aload_n 2, 1), (118, .aload_n 0, 1), (119, .iload_n 3, 1), (120, .iconst 1, 1), (121, .iadd, 1), (122, .iaload, 1), (123, .aload_n 0, 1), (124, .iload_n 3, 1), (125, .iconst 2, 1), (126, .iadd, 1), (127, .iaload, 1), (128, .aload_n 0, 1), (129, .iload_n 3, 1), (130, .iconst 3, 1), (131, .iadd, 1), (132, .iaload, 1), (133, .aload_n 0, 1), (134, .iload_n 3, 1), (135, .iconst 4, 1), (136, .iadd, 1), (137, .iaload, 1), (138, .aload_n 0, 1), (139, .iload_n 3, 1), (140, .iconst 5, 1), (141, .iadd, 1), (142, .iaload, 1), (143, .invokevirtual 25, 3), (146, .if_icmp .eq 186, 3), (149, .iconst 0, 1), (150, .ireturn, 1), (151, .aload_n 1, 1), (152, .aload_n 0, 1), (153, .iload_n 3, 1), (154, .iconst 1, 1), (155, .iadd, 1), (156, .iaload, 1), (157, .invokevirtual 26, 3), (160, .aload_n 2, 1), (161, .aload_n 0, 1), (162, .iload_n 3, 1), (163, .iconst 1, 1), (164, .iadd, 1), (165, .iaload, 1), (166, .invokevirtual 30, 3), (169, .if_icmp .eq 163, 3), (172, .iconst 0, 1), (173, .ireturn, 1), (174, .aload_n 1, 1), (175, .aload_n 0, 1), (176, .iload_n 3, 1), (177, .iconst 1, 1), (178, .iadd, 1), (179, .iaload, 1), (180, .aload_n 0, 1), (181, .iload_n 3, 1), (182, .iconst 2, 1), (183, .iadd, 1), (184, .iaload, 1), (185, .invokevirtual 31, 3), (188, .aload_n 2, 1), (189, .aload_n 0, 1), (190, .iload_n 3, 1), (191, .iconst 1, 1), (192, .iadd, 1), (193, .iaload, 1), (194, .aload_n 0, 1), (195, .iload_n 3, 1), (196, .iconst 2, 1), (197, .iadd, 1), (198, .iaload, 1), (199, .invokevirtual 35, 3), (202, .if_icmp .eq 130, 3), (205, .iconst 0, 1), (206, .ireturn, 1), (207, .aload_n 1, 1), (208, .aload_n 0, 1), (209, .iload_n 3, 1), (210, .iconst 1, 1), (211, .iadd, 1), (212, .iaload, 1), (213, .invokevirtual 36, 3), (216, .aload_n 2, 1), (217, .aload_n 0, 1), (218, .iload_n 3, 1), (219, .iconst 1, 1), (220, .iadd, 1), (221, .iaload, 1), (222, .invokevirtual 39, 3), (225, .if_icmp .eq 107, 3), (228, .iconst 0, 1), (229, .ireturn, 1), (230, .aload_n 1, 1), (231, .aload_n 0, 1), (232, .iload_n 3, 1), (233, .iconst 1, 1), (234, .iadd, 1), (235, .iaload, 1), (236, .invokevirtual 40, 3), (239, .aload_n 2, 1), (240, .aload_n 0, 1), (241, .iload_n 3, 1), (242, .iconst 1, 1), (243, .iadd, 1), (244, .iaload, 1), (245, .invokevirtual 43, 3), (248, .if_icmp .eq 84, 3), (251, .iconst 0, 1), (252, .ireturn, 1), (253, .aload_n 1, 1), (254, .aload_n 0, 1), (255, .iload_n 3, 1), (256, .iconst 1, 1), (257, .iadd, 1), (258, .iaload, 1), (259, .invokevirtual 44, 3), (262, .aload_n 2, 1), (263, .aload_n 0, 1), (264, .iload_n 3, 1), (265, .iconst 1, 1), (266, .iadd, 1), (267, .iaload, 1), (268, .invokevirtual 47, 3), (271, .if_icmp .eq 61, 3), (274, .iconst 0, 1), (275, .ireturn, 1), (276, .aload_n 1, 1), (277, .aload_n 0, 1), (278, .iload_n 3, 1), (279, .iconst 1, 1), (280, .iadd, 1), (281, .iaload, 1), (282, .invokevirtual 48, 3), (285, .aload_n 2, 1), (286, .aload_n 0, 1), (287, .iload_n 3, 1), (288, .iconst 1, 1), (289, .iadd, 1), (290, .iaload, 1), (291, .invokevirtual 51, 3), (294, .if_icmp .eq 38, 3), (297, .iconst 0, 1), (298, .ireturn, 1), (299, .aload_n 1, 1), (300, .aload_n 0, 1), (301, .iload_n 3, 1), (302, .iconst 1, 1), (303, .iadd, 1), (304, .iaload, 1), (305, .aload_n 0, 1), (306, .iload_n 3, 1), (307, .iconst 2, 1), (308, .iadd, 1), (309, .iaload, 1), (310, .invokevirtual 52, 3), (313, .aload_n 2, 1), (314, .aload_n 0, 1), (315, .iload_n 3, 1), (316, .iconst 1, 1), (317, .iadd, 1), (318, .iaload, 1), (319, .aload_n 0, 1), (320, .iload_n 3, 1), (321, .iconst 2, 1), (322, .iadd, 1), (323, .iaload, 1), (324, .invokevirtual 56, 3), (327, .if_icmp .eq 5, 3), (330, .iconst 0, 1), (331, .ireturn, 1), (332, .iinc 3 6, 3), (335, .goto (-307), 3), (338, .iconst 1, 1), (339, .ireturn, 1)]
def x_233 : zCx := (8, false, 4, zCode i_233, [])
def b_233 : zS := (sSeq (sSt 3 1 (eNew 0 1 [(eCall 232 [(eP (pL 3 0)), (eP (pI 0))])]))
  (sSeq (sSt 3 2 (eNew 6 222 [(eCall 232 [(eP (pL 3 0)), (eP (pI 0))])]))
  (sSeq (sBlk 3 (sSeq (sSt 1 3 (eP (pI 1)))
  (sWh (cP (kI .le (pL 1 3) (p2 oSub (p1 oAlen (pL 3 0)) (pI 6))))
  (sSw (eP (p2 oAnd (p2 oIald (pL 3 0) (pL 1 3)) (pI 7))) [(0, 0), (1, 1), (2, 2), (3, 3), (4, 4), (5, 5), (6, 6), (7, 7)] 8 [(sSeq (sIf (cI .ne (eCall 2 [(eP (pL 3 1)), (eP (p2 oIald (pL 3 0) (p2 oAdd (pL 1 3) (pI 1)))), (eP (p2 oIald (pL 3 0) (p2 oAdd (pL 1 3) (pI 2)))), (eP (p2 oIald (pL 3 0) (p2 oAdd (pL 1 3) (pI 3)))), (eP (p2 oIald (pL 3 0) (p2 oAdd (pL 1 3) (pI 4)))), (eP (p2 oIald (pL 3 0) (p2 oAdd (pL 1 3) (pI 5))))]) (eCall 127 [(eP (pL 3 2)), (eP (p2 oIald (pL 3 0) (p2 oAdd (pL 1 3) (pI 1)))), (eP (p2 oIald (pL 3 0) (p2 oAdd (pL 1 3) (pI 2)))), (eP (p2 oIald (pL 3 0) (p2 oAdd (pL 1 3) (pI 3)))), (eP (p2 oIald (pL 3 0) (p2 oAdd (pL 1 3) (pI 4)))), (eP (p2 oIald (pL 3 0) (p2 oAdd (pL 1 3) (pI 5))))]))
  (sRet 4 (eP (pI 0))))
  (sBrk false)),
  (sSeq (sIf (cI .ne (eCall 5 [(eP (pL 3 1)), (eP (p2 oIald (pL 3 0) (p2 oAdd (pL 1 3) (pI 1))))]) (eCall 224 [(eP (pL 3 2)), (eP (p2 oIald (pL 3 0) (p2 oAdd (pL 1 3) (pI 1))))]))
  (sRet 4 (eP (pI 0))))
  (sBrk false)),
  (sSeq (sIf (cI .ne (eCall 6 [(eP (pL 3 1)), (eP (p2 oIald (pL 3 0) (p2 oAdd (pL 1 3) (pI 1)))), (eP (p2 oIald (pL 3 0) (p2 oAdd (pL 1 3) (pI 2))))]) (eCall 226 [(eP (pL 3 2)), (eP (p2 oIald (pL 3 0) (p2 oAdd (pL 1 3) (pI 1)))), (eP (p2 oIald (pL 3 0) (p2 oAdd (pL 1 3) (pI 2))))]))
  (sRet 4 (eP (pI 0))))
  (sBrk false)),
  (sSeq (sIf (cI .ne (eCall 7 [(eP (pL 3 1)), (eP (p2 oIald (pL 3 0) (p2 oAdd (pL 1 3) (pI 1))))]) (eCall 227 [(eP (pL 3 2)), (eP (p2 oIald (pL 3 0) (p2 oAdd (pL 1 3) (pI 1))))]))
  (sRet 4 (eP (pI 0))))
  (sBrk false)),
  (sSeq (sIf (cI .ne (eCall 8 [(eP (pL 3 1)), (eP (p2 oIald (pL 3 0) (p2 oAdd (pL 1 3) (pI 1))))]) (eCall 228 [(eP (pL 3 2)), (eP (p2 oIald (pL 3 0) (p2 oAdd (pL 1 3) (pI 1))))]))
  (sRet 4 (eP (pI 0))))
  (sBrk false)),
  (sSeq (sIf (cI .ne (eCall 9 [(eP (pL 3 1)), (eP (p2 oIald (pL 3 0) (p2 oAdd (pL 1 3) (pI 1))))]) (eCall 229 [(eP (pL 3 2)), (eP (p2 oIald (pL 3 0) (p2 oAdd (pL 1 3) (pI 1))))]))
  (sRet 4 (eP (pI 0))))
  (sBrk false)),
  (sSeq (sIf (cI .ne (eCall 12 [(eP (pL 3 1)), (eP (p2 oIald (pL 3 0) (p2 oAdd (pL 1 3) (pI 1))))]) (eCall 230 [(eP (pL 3 2)), (eP (p2 oIald (pL 3 0) (p2 oAdd (pL 1 3) (pI 1))))]))
  (sRet 4 (eP (pI 0))))
  (sBrk false)),
  (sSeq (sIf (cI .ne (eCall 13 [(eP (pL 3 1)), (eP (p2 oIald (pL 3 0) (p2 oAdd (pL 1 3) (pI 1)))), (eP (p2 oIald (pL 3 0) (p2 oAdd (pL 1 3) (pI 2))))]) (eCall 231 [(eP (pL 3 2)), (eP (p2 oIald (pL 3 0) (p2 oAdd (pL 1 3) (pI 1)))), (eP (p2 oIald (pL 3 0) (p2 oAdd (pL 1 3) (pI 2))))]))
  (sRet 4 (eP (pI 0))))
  (sBrk false)),
  (sBrk false)])
  (sInc 3 6))))
  (sRet 4 (eP (pI 1))))))
theorem k_233 : b_233.1.1 x_233 (0, true, []) = some ((340, false, []), [], []) := by decide +kernel
/-- Math.abs -/
def i_234 : List (Nat × Instr × Nat) := [(0, .lload_n 0, 1), (1, .lconst 0, 1), (2, .lcmp, 1), (3, .ifCond .ge 8, 3), (6, .lload_n 0, 1), (7, .lneg, 1), (8, .goto 4, 3), (11, .lload_n 0, 1), (12, .lreturn, 1)]
def x_234 : zCx := (9, false, 2, zCode i_234, [])
def b_234 : zS := (sRet 2 (eP (pIte (kL .lt (pL 2 0) (pJ 0)) (p1 oLneg (pL 2 0)) (pL 2 0))))
theorem k_234 : b_234.1.1 x_234 (0, true, []) = some ((13, false, []), [], []) := by decide +kernel
/-- Math.max -/
def i_235 : List (Nat × Instr × Nat) := [(0, .iload_n 0, 1), (1, .iload_n 1, 1), (2, .if_icmp .lt 7, 3), (5, .iload_n 0, 1), (6, .goto 4, 3), (9, .iload_n 1, 1), (10, .ireturn, 1)]
def x_235 : zCx := (9, false, 1, zCode i_235, [])
def b_235 : zS := (sRet 1 (eP (pIte (kI .ge (pL 1 0) (pL 1 1)) (pL 1 0) (pL 1 1))))
theorem k_235 : b_235.1.1 x_235 (0, true, []) = some ((11, false, []), [], []) := by decide +kernel
/-- Math.min -/
def i_236 : List (Nat × Instr × Nat) := [(0, .iload_n 0, 1), (1, .iload_n 1, 1), (2, .if_icmp .gt 7, 3), (5, .iload_n 0, 1), (6, .goto 4, 3), (9, .iload_n 1, 1), (10, .ireturn, 1)]
def x_236 : zCx := (9, false, 1, zCode i_236, [])
def b_236 : zS := (sRet 1 (eP (pIte (kI .le (pL 1 0) (pL 1 1)) (pL 1 0) (pL 1 1))))
theorem k_236 : b_236.1.1 x_236 (0, true, []) = some ((11, false, []), [], []) := by decide +kernel
/-- Integer.bitCount -/
def i_237 : List (Nat × Instr × Nat) := [(0, .iload_n 0, 1), (1, .iload_n 0, 1), (2, .iconst 1, 1), (3, .iushr, 1), (4, .ldc_w 265, 3), (7, .iand, 1), (8, .isub, 1), (9, .istore_n 0, 1), (10, .iload_n 0, 1), (11, .ldc_w 266, 3), (14, .iand, 1), (15, .iload_n 0, 1), (16, .iconst 2, 1), (17, .iushr, 1), (18, .ldc_w 266, 3), (21, .iand, 1), (22, .iadd, 1), (23, .istore_n 0, 1), (24, .iload_n 0, 1), (25, .iload_n 0, 1), (26, .iconst 4, 1), (27, .iushr, 1), (28, .iadd, 1), (29, .ldc_w 267, 3), (32, .iand, 1), (33, .istore_n 0, 1), (34, .iload_n 0, 1), (35, .iload_n 0, 1), (36, .bipush 8, 2), (38, .iushr, 1), (39, .iadd, 1), (40, .istore_n 0, 1), (41, .iload_n 0, 1), (42, .iload_n 0, 1), (43, .bipush 16, 2), (45, .iushr, 1), (46, .iadd, 1), (47, .istore_n 0, 1), (48, .iload_n 0, 1), (49, .bipush 63, 2), (51, .iand, 1), (52, .ireturn, 1)]
def x_237 : zCx := (10, false, 1, zCode i_237, [])
def b_237 : zS := (sSeq (sSt 1 0 (eP (p2 oSub (pL 1 0) (p2 oAnd (p2 oUshr (pL 1 0) (pI 1)) (pI 1431655765)))))
  (sSeq (sSt 1 0 (eP (p2 oAdd (p2 oAnd (pL 1 0) (pI 858993459)) (p2 oAnd (p2 oUshr (pL 1 0) (pI 2)) (pI 858993459)))))
  (sSeq (sSt 1 0 (eP (p2 oAnd (p2 oAdd (pL 1 0) (p2 oUshr (pL 1 0) (pI 4))) (pI 252645135))))
  (sSeq (sSt 1 0 (eP (p2 oAdd (pL 1 0) (p2 oUshr (pL 1 0) (pI 8)))))
  (sSeq (sSt 1 0 (eP (p2 oAdd (pL 1 0) (p2 oUshr (pL 1 0) (pI 16)))))
  (sRet 1 (eP (p2 oAnd (pL 1 0) (pI 63)))))))))
theorem k_237 : b_237.1.1 x_237 (0, true, []) = some ((53, false, []), [], []) := by decide +kernel
