def zCode : List (Nat × Instr × Nat) → Nat → Option (Instr × Nat)
  | [], _ => none
  | (a, i, n) :: t, pc => if a = pc then some (i, n) else zCode t pc
/-- LazyForms.thing -/
def i_0 : List (Nat × Instr × Nat) := [(0, .lload_n 1, 1), (1, .iconst 3, 1), (2, .lshl, 1), (3, .iload_n 0, 1), (4, .i2l, 1), (5, .lor, 1), (6, .lreturn, 1)]
def x_0 : zCx := (0, false, 2, zCode i_0, [])
def b_0 : zS := (sRet 2 (eP (p2 oLor (p2 oLshl (pL 2 1) (pI 3)) (p1 oI2l (pL 1 0)))))
theorem k_0 : b_0.1.1 x_0 (0, true, []) = some ((7, false, []), [], []) := by decide +kernel
/-- LazyForms.<init> -/
def i_1 : List (Nat × Instr × Nat) := [(0, .aload_n 0, 1), (1, .invokespecial 1, 3), (4, .aload_n 0, 1), (5, .sipush 2000, 3), (8, .newarray .byte, 2), (10, .putfield 9, 3), (13, .aload_n 0, 1), (14, .new 13, 3), (17, .dup, 1), (18, .invokespecial 15, 3), (21, .putfield 16, 3), (24, .aload_n 0, 1), (25, .new 20, 3), (28, .dup, 1), (29, .invokespecial 22, 3), (32, .putfield 23, 3), (35, .aload_n 0, 1), (36, .new 20, 3), (39, .dup, 1), (40, .invokespecial 22, 3), (43, .putfield 27, 3), (46, .aload_n 0, 1), (47, .new 20, 3), (50, .dup, 1), (51, .invokespecial 22, 3), (54, .putfield 30, 3), (57, .aload_n 0, 1), (58, .new 20, 3), (61, .dup, 1), (62, .invokespecial 22, 3), (65, .putfield 33, 3), (68, .aload_n 0, 1), (69, .new 36, 3), (72, .dup, 1), (73, .iload_n 1, 1), (74, .bipush 10, 2), (76, .if_icmp .ge 8, 3), (79, .bipush 10, 2), (81, .goto 17, 3), (84, .iload_n 1, 1), (85, .sipush 1500, 3), (88, .if_icmp .le 9, 3), (91, .sipush 1500, 3), (94, .goto 4, 3), (97, .iload_n 1, 1), (98, .invokespecial 38, 3), (101, .putfield 41, 3), (104, .return_, 1)]
def x_1 : zCx := (0, true, 0, zCode i_1, [])
def b_1 : zS := (sSeq sSup
  (sSeq (sPf (eP (pL 3 0)) 0 0 3 (eNewA .byte (pI 2000)))
  (sSeq (sPf (eP (pL 3 0)) 0 2 3 (eNew 2 71 []))
  (sSeq (sPf (eP (pL 3 0)) 0 3 3 (eNew 5 35 []))
  (sSeq (sPf (eP (pL 3 0)) 0 4 3 (eNew 5 35 []))
  (sSeq (sPf (eP (pL 3 0)) 0 5 3 (eNew 5 35 []))
  (sSeq (sPf (eP (pL 3 0)) 0 6 3 (eNew 5 35 []))
  (sSeq (sPf (eP (pL 3 0)) 0 7 3 (eNew 1 72 [(eP (pIte (kI .lt (pL 1 1) (pI 10)) (pI 10) (pIte (kI .gt (pL 1 1) (pI 1500)) (pI 1500) (pL 1 1))))]))
  sRet0))))))))
theorem k_1 : b_1.1.1 x_1 (0, true, []) = some ((105, false, []), [], []) := by decide +kernel
/-- LazyForms.feed -/
def i_2 : List (Nat × Instr × Nat) := [(0, .aload_n 0, 1), (1, .getfield 45, 3), (4, .bipush 20, 2), (6, .iadd, 1), (7, .sipush 2000, 3), (10, .if_icmp .le 5, 3), (13, .iconst (-1), 1), (14, .ireturn, 1), (15, .aload_n 0, 1), (16, .iload_n 1, 1), (17, .invokevirtual 49, 3), (20, .aload_n 0, 1), (21, .iload_n 2, 1), (22, .invokevirtual 49, 3), (25, .aload_n 0, 1), (26, .iload_n 3, 1), (27, .invokevirtual 49, 3), (30, .aload_n 0, 1), (31, .iload 4, 2), (33, .invokevirtual 49, 3), (36, .aload_n 0, 1), (37, .iload 5, 2), (39, .invokevirtual 49, 3), (42, .aload_n 0, 1), (43, .getfield 45, 3), (46, .ireturn, 1)]
def x_2 : zCx := (0, false, 1, zCode i_2, [])
def b_2 : zS := (sSeq (sIf (cP (kI .gt (p2 oAdd (p1 (oGf 0 1 1) (pL 3 0)) (pI 20)) (pI 2000)))
  (sRet 1 (eP (pI (-1)))))
  (sSeq (sCall 3 [(eP (pL 3 0)), (eP (pL 1 1))])
  (sSeq (sCall 3 [(eP (pL 3 0)), (eP (pL 1 2))])
  (sSeq (sCall 3 [(eP (pL 3 0)), (eP (pL 1 3))])
  (sSeq (sCall 3 [(eP (pL 3 0)), (eP (pL 1 4))])
  (sSeq (sCall 3 [(eP (pL 3 0)), (eP (pL 1 5))])
  (sRet 1 (eP (p1 (oGf 0 1 1) (pL 3 0))))))))))
theorem k_2 : b_2.1.1 x_2 (0, true, []) = some ((47, false, []), [], []) := by decide +kernel
/-- LazyForms.tapeFour -/
def i_3 : List (Nat × Instr × Nat) := [(0, .bipush 24, 2), (2, .istore_n 2, 1), (3, .iload_n 2, 1), (4, .ifCond .lt 32, 3), (7, .aload_n 0, 1), (8, .getfield 9, 3), (11, .aload_n 0, 1), (12, .getfield 45, 3), (15, .iload_n 1, 1), (16, .iload_n 2, 1), (17, .ishr, 1), (18, .i2b, 1), (19, .bastore, 1), (20, .aload_n 0, 1), (21, .dup, 1), (22, .getfield 45, 3), (25, .iconst 1, 1), (26, .iadd, 1), (27, .putfield 45, 3), (30, .iinc 2 (-8), 3), (33, .goto (-30), 3), (36, .return_, 1)]
def x_3 : zCx := (0, false, 0, zCode i_3, [])
def b_3 : zS := (sSeq (sBlk 2 (sSeq (sSt 1 2 (eP (pI 24)))
  (sWh (cP (k0 .ge (pL 1 2)))
  (sSeq (sSe 2 (eP (p1 (oGf 0 0 3) (pL 3 0))) (eP (p1 (oGf 0 1 1) (pL 3 0))) (eP (p1 oI2b (p2 oShr (pL 1 1) (pL 1 2)))))
  (sPfo (eP (pL 3 0)) 0 1 1 oAdd (eP (pI 1))))
  (sInc 2 (-8)))))
  sRet0)
theorem k_3 : b_3.1.1 x_3 (0, true, []) = some ((37, false, []), [], []) := by decide +kernel
/-- LazyForms.isRead -/
def i_4 : List (Nat × Instr × Nat) := [(0, .aload_n 0, 1), (1, .iconst 1, 1), (2, .putfield 52, 3), (5, .aload_n 0, 1), (6, .aload_n 0, 1), (7, .getfield 16, 3), (10, .getfield 56, 3), (13, .putfield 59, 3), (16, .aload_n 0, 1), (17, .aload_n 0, 1), (18, .getfield 16, 3), (21, .getfield 60, 3), (24, .putfield 63, 3), (27, .return_, 1)]
def x_4 : zCx := (0, false, 0, zCode i_4, [])
def b_4 : zS := (sSeq (sSeq (sPf (eP (pL 3 0)) 0 9 4 (eP (pI 1)))
  (sSeq (sPf (eP (pL 3 0)) 0 10 1 (eP (p1 (oGf 2 6 1) (p1 (oGf 0 2 3) (pL 3 0)))))
  (sPf (eP (pL 3 0)) 0 11 1 (eP (p1 (oGf 2 7 1) (p1 (oGf 0 2 3) (pL 3 0)))))))
  sRet0)
theorem k_4 : b_4.1.1 x_4 (0, true, []) = some ((28, false, []), [], []) := by decide +kernel
/-- LazyForms.load -/
def i_5 : List (Nat × Instr × Nat) := [(0, .iload_n 1, 1), (1, .ifCond .lt 11, 3), (4, .iload_n 1, 1), (5, .aload_n 0, 1), (6, .getfield 45, 3), (9, .if_icmp .le 6, 3), (12, .bipush (-2), 2), (14, .ireturn, 1), (15, .aload_n 0, 1), (16, .iconst 0, 1), (17, .putfield 45, 3), (20, .aload_n 0, 1), (21, .getfield 16, 3), (24, .aload_n 0, 1), (25, .getfield 27, 3), (28, .aload_n 0, 1), (29, .getfield 9, 3), (32, .iload_n 1, 1), (33, .invokevirtual 64, 3), (36, .istore_n 2, 1), (37, .aload_n 0, 1), (38, .invokevirtual 67, 3), (41, .iload_n 2, 1), (42, .ifCond .ne 5, 3), (45, .iconst (-1), 1), (46, .ireturn, 1), (47, .aload_n 0, 1), (48, .getfield 23, 3), (51, .astore_n 3, 1), (52, .aload_n 0, 1), (53, .aload_n 0, 1), (54, .getfield 27, 3), (57, .putfield 23, 3), (60, .aload_n 0, 1), (61, .aload_n 3, 1), (62, .putfield 27, 3), (65, .aload_n 0, 1), (66, .iconst 1, 1), (67, .putfield 69, 3), (70, .aload_n 0, 1), (71, .getfield 41, 3), (74, .aload_n 0, 1), (75, .getfield 23, 3), (78, .invokevirtual 72, 3), (81, .aload_n 0, 1), (82, .getfield 23, 3), (85, .getfield 76, 3), (88, .ireturn, 1)]
def x_5 : zCx := (0, false, 1, zCode i_5, [])
def b_5 : zS := (sSeq (sIf (cP (kOr (k0 .lt (pL 1 1)) (kI .gt (pL 1 1) (p1 (oGf 0 1 1) (pL 3 0)))))
  (sRet 1 (eP (pI (-2)))))
  (sSeq (sPf (eP (pL 3 0)) 0 1 1 (eP (pI 0)))
  (sSeq (sSt 1 2 (eCall 41 [(eP (p1 (oGf 0 2 3) (pL 3 0))), (eP (p1 (oGf 0 4 3) (pL 3 0))), (eP (p1 (oGf 0 0 3) (pL 3 0))), (eP (pL 1 1))]))
  (sSeq (sCall 4 [(eP (pL 3 0))])
  (sSeq (sIf (cP (kNot (k0 .ne (pL 1 2))))
  (sRet 1 (eP (pI (-1)))))
  (sSeq (sSt 3 3 (eP (p1 (oGf 0 3 3) (pL 3 0))))
  (sSeq (sPf (eP (pL 3 0)) 0 3 3 (eP (p1 (oGf 0 4 3) (pL 3 0))))
  (sSeq (sPf (eP (pL 3 0)) 0 4 3 (eP (pL 3 3)))
  (sSeq (sPf (eP (pL 3 0)) 0 8 4 (eP (pI 1)))
  (sSeq (sCall 81 [(eP (p1 (oGf 0 7 3) (pL 3 0))), (eP (p1 (oGf 0 3 3) (pL 3 0)))])
  (sRet 1 (eP (p1 (oGf 5 16 1) (p1 (oGf 0 3 3) (pL 3 0)))))))))))))))
theorem k_5 : b_5.1.1 x_5 (0, true, []) = some ((89, false, []), [], []) := by decide +kernel
/-- LazyForms.ask -/
def i_6 : List (Nat × Instr × Nat) := [(0, .iload_n 1, 1), (1, .ifCond .lt 11, 3), (4, .iload_n 1, 1), (5, .aload_n 0, 1), (6, .getfield 45, 3), (9, .if_icmp .le 5, 3), (12, .iconst 0, 1), (13, .ireturn, 1), (14, .aload_n 0, 1), (15, .iconst 0, 1), (16, .putfield 45, 3), (19, .iload_n 2, 1), (20, .iconst 1, 1), (21, .if_icmp .lt 16, 3), (24, .iload_n 2, 1), (25, .bipush 9, 2), (27, .if_icmp .gt 10, 3), (30, .aload_n 0, 1), (31, .getfield 69, 3), (34, .ifCond .ne 5, 3), (37, .iconst 0, 1), (38, .ireturn, 1), (39, .aload_n 0, 1), (40, .getfield 16, 3), (43, .aload_n 0, 1), (44, .getfield 33, 3), (47, .aload_n 0, 1), (48, .getfield 23, 3), (51, .aload_n 0, 1), (52, .getfield 9, 3), (55, .iload_n 1, 1), (56, .invokevirtual 79, 3), (59, .istore_n 3, 1), (60, .aload_n 0, 1), (61, .invokevirtual 67, 3), (64, .iload_n 3, 1), (65, .ifCond .ne 5, 3), (68, .iconst 0, 1), (69, .ireturn, 1), (70, .aload_n 0, 1), (71, .getfield 30, 3), (74, .astore 4, 2), (76, .aload_n 0, 1), (77, .aload_n 0, 1), (78, .getfield 33, 3), (81, .putfield 30, 3), (84, .aload_n 0, 1), (85, .aload 4, 2), (87, .putfield 33, 3), (90, .aload_n 0, 1), (91, .getfield 41, 3), (94, .aload_n 0, 1), (95, .getfield 30, 3), (98, .iload_n 2, 1), (99, .invokevirtual 83, 3), (102, .iconst 1, 1), (103, .ireturn, 1)]
def x_6 : zCx := (0, false, 4, zCode i_6, [])
def b_6 : zS := (sSeq (sIf (cP (kOr (k0 .lt (pL 1 1)) (kI .gt (pL 1 1) (p1 (oGf 0 1 1) (pL 3 0)))))
  (sRet 4 (eP (pI 0))))
  (sSeq (sPf (eP (pL 3 0)) 0 1 1 (eP (pI 0)))
  (sSeq (sIf (cP (kOr (kOr (kI .lt (pL 1 2) (pI 1)) (kI .gt (pL 1 2) (pI 9))) (kNot (k0 .ne (p1 (oGf 0 8 4) (pL 3 0))))))
  (sRet 4 (eP (pI 0))))
  (sSeq (sSt 1 3 (eCall 42 [(eP (p1 (oGf 0 2 3) (pL 3 0))), (eP (p1 (oGf 0 6 3) (pL 3 0))), (eP (p1 (oGf 0 3 3) (pL 3 0))), (eP (p1 (oGf 0 0 3) (pL 3 0))), (eP (pL 1 1))]))
  (sSeq (sCall 4 [(eP (pL 3 0))])
  (sSeq (sIf (cP (kNot (k0 .ne (pL 1 3))))
  (sRet 4 (eP (pI 0))))
  (sSeq (sSt 3 4 (eP (p1 (oGf 0 5 3) (pL 3 0))))
  (sSeq (sPf (eP (pL 3 0)) 0 5 3 (eP (p1 (oGf 0 6 3) (pL 3 0))))
  (sSeq (sPf (eP (pL 3 0)) 0 6 3 (eP (pL 3 4)))
  (sSeq (sCall 82 [(eP (p1 (oGf 0 7 3) (pL 3 0))), (eP (p1 (oGf 0 5 3) (pL 3 0))), (eP (pL 1 2))])
  (sRet 4 (eP (pI 1)))))))))))))
theorem k_6 : b_6.1.1 x_6 (0, true, []) = some ((104, false, []), [], []) := by decide +kernel
/-- LazyForms.fault -/
def i_7 : List (Nat × Instr × Nat) := [(0, .aload_n 0, 1), (1, .getfield 52, 3), (4, .ifCond .eq 12, 3), (7, .iload_n 1, 1), (8, .ifCond .eq 10, 3), (11, .iload_n 1, 1), (12, .iconst 1, 1), (13, .if_icmp .eq 5, 3), (16, .iconst (-1), 1), (17, .ireturn, 1), (18, .iload_n 1, 1), (19, .ifCond .ne 10, 3), (22, .aload_n 0, 1), (23, .getfield 59, 3), (26, .goto 7, 3), (29, .aload_n 0, 1), (30, .getfield 63, 3), (33, .ireturn, 1)]
def x_7 : zCx := (0, false, 1, zCode i_7, [])
def b_7 : zS := (sSeq (sIf (cP (kOr (kNot (k0 .ne (p1 (oGf 0 9 4) (pL 3 0)))) (kAnd (k0 .ne (pL 1 1)) (kI .ne (pL 1 1) (pI 1)))))
  (sRet 1 (eP (pI (-1)))))
  (sRet 1 (eP (pIte (k0 .eq (pL 1 1)) (p1 (oGf 0 10 1) (pL 3 0)) (p1 (oGf 0 11 1) (pL 3 0))))))
theorem k_7 : b_7.1.1 x_7 (0, true, []) = some ((34, false, []), [], []) := by decide +kernel
/-- LazyForms.run -/
def i_8 : List (Nat × Instr × Nat) := [(0, .iload_n 1, 1), (1, .ifCond .lt 20, 3), (4, .iload_n 1, 1), (5, .sipush 20000, 3), (8, .if_icmp .gt 13, 3), (11, .aload_n 0, 1), (12, .getfield 41, 3), (15, .getfield 87, 3), (18, .ifCond .ne 7, 3), (21, .iconst (-1), 1), (22, .goto 11, 3), (25, .aload_n 0, 1), (26, .getfield 41, 3), (29, .iload_n 1, 1), (30, .invokevirtual 90, 3), (33, .ireturn, 1)]
def x_8 : zCx := (0, false, 1, zCode i_8, [])
def b_8 : zS := (sRet 1 (eIte (cP (kOr (kOr (k0 .lt (pL 1 1)) (kI .gt (pL 1 1) (pI 20000))) (k0 .eq (p1 (oGf 1 17 1) (p1 (oGf 0 7 3) (pL 3 0)))))) (eP (pI (-1))) (eCall 106 [(eP (p1 (oGf 0 7 3) (pL 3 0))), (eP (pL 1 1))])))
theorem k_8 : b_8.1.1 x_8 (0, true, []) = some ((34, false, []), [], []) := by decide +kernel
/-- LazyForms.about -/
def i_9 : List (Nat × Instr × Nat) := [(0, .iload_n 1, 1), (1, .lookupswitch 54 #[(0, 27), (8, 35)], 27), (28, .aload_n 0, 1), (29, .getfield 41, 3), (32, .getfield 87, 3), (35, .ireturn, 1), (36, .aload_n 0, 1), (37, .getfield 69, 3), (40, .ifCond .eq 13, 3), (43, .aload_n 0, 1), (44, .getfield 41, 3), (47, .invokevirtual 94, 3), (50, .goto 4, 3), (53, .iconst 0, 1), (54, .ireturn, 1), (55, .aload_n 0, 1), (56, .getfield 41, 3), (59, .getfield 87, 3), (62, .ifCond .ne 24, 3), (65, .iload_n 1, 1), (66, .ifCond .le 16, 3), (69, .iload_n 1, 1), (70, .bipush 10, 2), (72, .if_icmp .ge 10, 3), (75, .iload_n 1, 1), (76, .invokestatic 98, 3), (79, .goto 12, 3), (82, .iconst (-1), 1), (83, .goto 8, 3), (86, .aload_n 0, 1), (87, .iload_n 1, 1), (88, .invokevirtual 101, 3), (91, .ireturn, 1)]
def x_9 : zCx := (0, false, 1, zCode i_9, [])
def b_9 : zS := (sSw (eP (pL 1 1)) [(0, 0), (8, 1)] 2 [(sRet 1 (eP (p1 (oGf 1 17 1) (p1 (oGf 0 7 3) (pL 3 0))))),
  (sRet 1 (eIte (cP (k0 .ne (p1 (oGf 0 8 4) (pL 3 0)))) (eCall 98 [(eP (p1 (oGf 0 7 3) (pL 3 0)))]) (eP (pI 0)))),
  (sRet 1 (eIte (cP (k0 .eq (p1 (oGf 1 17 1) (p1 (oGf 0 7 3) (pL 3 0))))) (eIte (cP (kAnd (k0 .gt (pL 1 1)) (kI .lt (pL 1 1) (pI 10)))) (eCall 10 [(eP (pL 1 1))]) (eP (pI (-1)))) (eCall 11 [(eP (pL 3 0)), (eP (pL 1 1))])))])
theorem k_9 : b_9.1.1 x_9 (0, true, []) = some ((92, false, []), [], []) := by decide +kernel
/-- LazyForms.nothing -/
def i_10 : List (Nat × Instr × Nat) := [(0, .iload_n 0, 1), (1, .bipush 7, 2), (3, .if_icmp .ne 7, 3), (6, .iconst (-1), 1), (7, .goto 4, 3), (10, .iconst 0, 1), (11, .ireturn, 1)]
def x_10 : zCx := (0, false, 1, zCode i_10, [])
def b_10 : zS := (sRet 1 (eP (pIte (kI .eq (pL 1 0) (pI 7)) (pI (-1)) (pI 0))))
theorem k_10 : b_10.1.1 x_10 (0, true, []) = some ((12, false, []), [], []) := by decide +kernel
/-- LazyForms.told -/
def i_11 : List (Nat × Instr × Nat) := [(0, .iload_n 1, 1), (1, .tableswitch 130 1 9 #[51, 59, 67, 75, 83, 91, 99, 130, 122], 51), (52, .aload_n 0, 1), (53, .getfield 41, 3), (56, .getfield 104, 3), (59, .ireturn, 1), (60, .aload_n 0, 1), (61, .getfield 41, 3), (64, .getfield 107, 3), (67, .ireturn, 1), (68, .aload_n 0, 1), (69, .getfield 41, 3), (72, .getfield 110, 3), (75, .ireturn, 1), (76, .aload_n 0, 1), (77, .getfield 41, 3), (80, .getfield 113, 3), (83, .ireturn, 1), (84, .aload_n 0, 1), (85, .getfield 41, 3), (88, .getfield 116, 3), (91, .ireturn, 1), (92, .aload_n 0, 1), (93, .getfield 41, 3), (96, .getfield 119, 3), (99, .ireturn, 1), (100, .aload_n 0, 1), (101, .getfield 41, 3), (104, .getfield 87, 3), (107, .iconst 3, 1), (108, .if_icmp .ge 7, 3), (111, .iconst (-1), 1), (112, .goto 10, 3), (115, .aload_n 0, 1), (116, .getfield 41, 3), (119, .getfield 122, 3), (122, .ireturn, 1), (123, .aload_n 0, 1), (124, .getfield 41, 3), (127, .getfield 125, 3), (130, .ireturn, 1), (131, .iconst (-1), 1), (132, .ireturn, 1)]
def x_11 : zCx := (0, false, 1, zCode i_11, [])
def b_11 : zS := (sSw (eP (pL 1 1)) [(1, 0), (2, 1), (3, 2), (4, 3), (5, 4), (6, 5), (7, 6), (9, 7)] 8 [(sRet 1 (eP (p1 (oGf 1 18 1) (p1 (oGf 0 7 3) (pL 3 0))))),
  (sRet 1 (eP (p1 (oGf 1 19 1) (p1 (oGf 0 7 3) (pL 3 0))))),
  (sRet 1 (eP (p1 (oGf 1 20 1) (p1 (oGf 0 7 3) (pL 3 0))))),
  (sRet 1 (eP (p1 (oGf 1 21 1) (p1 (oGf 0 7 3) (pL 3 0))))),
  (sRet 1 (eP (p1 (oGf 1 15 1) (p1 (oGf 0 7 3) (pL 3 0))))),
  (sRet 1 (eP (p1 (oGf 1 16 1) (p1 (oGf 0 7 3) (pL 3 0))))),
  (sRet 1 (eP (pIte (kI .lt (p1 (oGf 1 17 1) (p1 (oGf 0 7 3) (pL 3 0))) (pI 3)) (pI (-1)) (p1 (oGf 1 22 1) (p1 (oGf 0 7 3) (pL 3 0)))))),
  (sRet 1 (eP (p1 (oGf 1 23 1) (p1 (oGf 0 7 3) (pL 3 0))))),
  (sRet 1 (eP (pI (-1))))])
theorem k_11 : b_11.1.1 x_11 (0, true, []) = some ((133, false, []), [], []) := by decide +kernel
/-- LazyForms.octet -/
def i_12 : List (Nat × Instr × Nat) := [(0, .aload_n 0, 1), (1, .getfield 41, 3), (4, .getfield 87, 3), (7, .ifCond .eq 18, 3), (10, .iload_n 1, 1), (11, .ifCond .lt 14, 3), (14, .iload_n 1, 1), (15, .aload_n 0, 1), (16, .getfield 41, 3), (19, .getfield 125, 3), (22, .if_icmp .lt 7, 3), (25, .iconst (-1), 1), (26, .goto 12, 3), (29, .aload_n 0, 1), (30, .getfield 41, 3), (33, .getfield 128, 3), (36, .iload_n 1, 1), (37, .baload, 1), (38, .ireturn, 1)]
def x_12 : zCx := (0, false, 1, zCode i_12, [])
def b_12 : zS := (sRet 1 (eP (pIte (kOr (kOr (k0 .eq (p1 (oGf 1 17 1) (p1 (oGf 0 7 3) (pL 3 0)))) (k0 .lt (pL 1 1))) (kI .ge (pL 1 1) (p1 (oGf 1 23 1) (p1 (oGf 0 7 3) (pL 3 0))))) (pI (-1)) (p2 oBald (p1 (oGf 1 24 3) (p1 (oGf 0 7 3) (pL 3 0))) (pL 1 1)))))
theorem k_12 : b_12.1.1 x_12 (0, true, []) = some ((39, false, []), [], []) := by decide +kernel
/-- LazyForms.definition -/
def i_13 : List (Nat × Instr × Nat) := [(0, .aload_n 0, 1), (1, .getfield 69, 3), (4, .ifCond .eq 22, 3), (7, .iload_n 1, 1), (8, .ifCond .lt 18, 3), (11, .iload_n 1, 1), (12, .aload_n 0, 1), (13, .getfield 23, 3), (16, .getfield 76, 3), (19, .if_icmp .ge 7, 3), (22, .iload_n 2, 1), (23, .ifCond .ge 5, 3), (26, .iconst (-1), 1), (27, .ireturn, 1), (28, .iload_n 2, 1), (29, .ifCond .ne 13, 3), (32, .aload_n 0, 1), (33, .getfield 23, 3), (36, .getfield 131, 3), (39, .iload_n 1, 1), (40, .iaload, 1), (41, .ireturn, 1), (42, .iload_n 2, 1), (43, .iconst 1, 1), (44, .if_icmp .ne 15, 3), (47, .aload_n 0, 1), (48, .getfield 41, 3), (51, .getfield 135, 3), (54, .iload_n 1, 1), (55, .iaload, 1), (56, .iconst 1, 1), (57, .iadd, 1), (58, .ireturn, 1), (59, .iload_n 2, 1), (60, .iconst 2, 1), (61, .if_icmp .ne 13, 3), (64, .aload_n 0, 1), (65, .getfield 23, 3), (68, .getfield 138, 3), (71, .iload_n 1, 1), (72, .iaload, 1), (73, .ireturn, 1), (74, .iload_n 2, 1), (75, .bipush 10, 2), (77, .if_icmp .lt 39, 3), (80, .iload_n 2, 1), (81, .bipush 10, 2), (83, .isub, 1), (84, .aload_n 0, 1), (85, .getfield 23, 3), (88, .getfield 138, 3), (91, .iload_n 1, 1), (92, .iaload, 1), (93, .if_icmp .ge 23, 3), (96, .aload_n 0, 1), (97, .getfield 23, 3), (100, .getfield 141, 3), (103, .bipush 12, 2), (105, .iload_n 1, 1), (106, .imul, 1), (107, .iload_n 2, 1), (108, .iadd, 1), (109, .bipush 10, 2), (111, .isub, 1), (112, .baload, 1), (113, .goto 4, 3), (116, .iconst (-1), 1), (117, .ireturn, 1)]
def x_13 : zCx := (0, false, 1, zCode i_13, [])
def b_13 : zS := (sSeq (sIf (cP (kOr (kOr (kOr (kNot (k0 .ne (p1 (oGf 0 8 4) (pL 3 0)))) (k0 .lt (pL 1 1))) (kI .ge (pL 1 1) (p1 (oGf 5 16 1) (p1 (oGf 0 3 3) (pL 3 0))))) (k0 .lt (pL 1 2))))
  (sRet 1 (eP (pI (-1)))))
  (sSeq (sIf (cP (k0 .eq (pL 1 2)))
  (sRet 1 (eP (p2 oIald (p1 (oGf 5 14 3) (p1 (oGf 0 3 3) (pL 3 0))) (pL 1 1)))))
  (sSeq (sIf (cP (kI .eq (pL 1 2) (pI 1)))
  (sRet 1 (eP (p2 oAdd (p2 oIald (p1 (oGf 1 8 3) (p1 (oGf 0 7 3) (pL 3 0))) (pL 1 1)) (pI 1)))))
  (sSeq (sIf (cP (kI .eq (pL 1 2) (pI 2)))
  (sRet 1 (eP (p2 oIald (p1 (oGf 5 13 3) (p1 (oGf 0 3 3) (pL 3 0))) (pL 1 1)))))
  (sRet 1 (eP (pIte (kAnd (kI .ge (pL 1 2) (pI 10)) (kI .lt (p2 oSub (pL 1 2) (pI 10)) (p2 oIald (p1 (oGf 5 13 3) (p1 (oGf 0 3 3) (pL 3 0))) (pL 1 1)))) (p2 oBald (p1 (oGf 5 12 3) (p1 (oGf 0 3 3) (pL 3 0))) (p2 oSub (p2 oAdd (p2 oMul (pI 12) (pL 1 1)) (pL 1 2)) (pI 10))) (pI (-1)))))))))
theorem k_13 : b_13.1.1 x_13 (0, true, []) = some ((118, false, []), [], []) := by decide +kernel
/-- LazyForms$Tokens.b -/
def i_14 : List (Nat × Instr × Nat) := [(0, .iload_n 1, 1), (1, .aload_n 0, 1), (2, .getfield 25, 3), (5, .if_icmp .ge 16, 3), (8, .aload_n 0, 1), (9, .getfield 9, 3), (12, .iload_n 1, 1), (13, .baload, 1), (14, .sipush 255, 3), (17, .iand, 1), (18, .goto 4, 3), (21, .iconst 0, 1), (22, .ireturn, 1)]
def x_14 : zCx := (4, false, 1, zCode i_14, [])
def b_14 : zS := (sRet 1 (eP (pIte (kI .lt (pL 1 1) (p1 (oGf 4 1 1) (pL 3 0))) (p2 oAnd (p2 oBald (p1 (oGf 4 0 3) (pL 3 0)) (pL 1 1)) (pI 255)) (pI 0))))
theorem k_14 : b_14.1.1 x_14 (0, true, []) = some ((23, false, []), [], []) := by decide +kernel
/-- LazyForms$Tokens.isSmall -/
def i_15 : List (Nat × Instr × Nat) := [(0, .iload_n 0, 1), (1, .bipush 97, 2), (3, .if_icmp .lt 13, 3), (6, .iload_n 0, 1), (7, .bipush 122, 2), (9, .if_icmp .gt 7, 3), (12, .iconst 1, 1), (13, .goto 4, 3), (16, .iconst 0, 1), (17, .ireturn, 1)]
def x_15 : zCx := (4, false, 4, zCode i_15, [])
def b_15 : zS := (sRet 4 (eP (pB (kAnd (kI .ge (pL 1 0) (pI 97)) (kI .le (pL 1 0) (pI 122))))))
theorem k_15 : b_15.1.1 x_15 (0, true, []) = some ((18, false, []), [], []) := by decide +kernel
/-- LazyForms$Tokens.isBig -/
def i_16 : List (Nat × Instr × Nat) := [(0, .iload_n 0, 1), (1, .bipush 65, 2), (3, .if_icmp .lt 13, 3), (6, .iload_n 0, 1), (7, .bipush 90, 2), (9, .if_icmp .gt 7, 3), (12, .iconst 1, 1), (13, .goto 4, 3), (16, .iconst 0, 1), (17, .ireturn, 1)]
def x_16 : zCx := (4, false, 4, zCode i_16, [])
def b_16 : zS := (sRet 4 (eP (pB (kAnd (kI .ge (pL 1 0) (pI 65)) (kI .le (pL 1 0) (pI 90))))))
theorem k_16 : b_16.1.1 x_16 (0, true, []) = some ((18, false, []), [], []) := by decide +kernel
/-- LazyForms$Tokens.isDigit -/
def i_17 : List (Nat × Instr × Nat) := [(0, .iload_n 0, 1), (1, .bipush 48, 2), (3, .if_icmp .lt 13, 3), (6, .iload_n 0, 1), (7, .bipush 57, 2), (9, .if_icmp .gt 7, 3), (12, .iconst 1, 1), (13, .goto 4, 3), (16, .iconst 0, 1), (17, .ireturn, 1)]
def x_17 : zCx := (4, false, 4, zCode i_17, [])
def b_17 : zS := (sRet 4 (eP (pB (kAnd (kI .ge (pL 1 0) (pI 48)) (kI .le (pL 1 0) (pI 57))))))
theorem k_17 : b_17.1.1 x_17 (0, true, []) = some ((18, false, []), [], []) := by decide +kernel
/-- LazyForms$Tokens.goesOn -/
def i_18 : List (Nat × Instr × Nat) := [(0, .iload_n 0, 1), (1, .invokestatic 29, 3), (4, .ifCond .ne 23, 3), (7, .iload_n 0, 1), (8, .invokestatic 33, 3), (11, .ifCond .ne 16, 3), (14, .iload_n 0, 1), (15, .invokestatic 36, 3), (18, .ifCond .ne 9, 3), (21, .iload_n 0, 1), (22, .bipush 95, 2), (24, .if_icmp .ne 7, 3), (27, .iconst 1, 1), (28, .goto 4, 3), (31, .iconst 0, 1), (32, .ireturn, 1)]
def x_18 : zCx := (4, false, 4, zCode i_18, [])
def b_18 : zS := (sRet 4 (eB (cOr (cOr (cOr (c0 .ne (eCall 15 [(eP (pL 1 0))])) (c0 .ne (eCall 16 [(eP (pL 1 0))]))) (c0 .ne (eCall 17 [(eP (pL 1 0))]))) (cP (kI .eq (pL 1 0) (pI 95))))))
theorem k_18 : b_18.1.1 x_18 (0, true, []) = some ((33, false, []), [], []) := by decide +kernel
/-- LazyForms$Tokens.read -/
def i_19 : List (Nat × Instr × Nat) := [(0, .aload_n 1, 1), (1, .iconst 0, 1), (2, .aload_n 0, 1), (3, .getfield 9, 3), (6, .iconst 0, 1), (7, .iload_n 2, 1), (8, .invokestatic 39, 3), (11, .aload_n 0, 1), (12, .iload_n 2, 1), (13, .putfield 25, 3), (16, .aload_n 0, 1), (17, .iconst 0, 1), (18, .putfield 45, 3), (21, .aload_n 0, 1), (22, .iconst 0, 1), (23, .invokevirtual 48, 3), (26, .istore_n 3, 1), (27, .iload_n 3, 1), (28, .aload_n 0, 1), (29, .getfield 25, 3), (32, .if_icmp .ge 16, 3), (35, .aload_n 0, 1), (36, .aload_n 0, 1), (37, .iload_n 3, 1), (38, .invokevirtual 52, 3), (41, .invokevirtual 48, 3), (44, .istore_n 3, 1), (45, .goto (-18), 3), (48, .aload_n 0, 1), (49, .iconst 0, 1), (50, .aload_n 0, 1), (51, .getfield 25, 3), (54, .iconst 0, 1), (55, .invokevirtual 55, 3), (58, .pop, 1), (59, .return_, 1)]
def x_19 : zCx := (4, false, 0, zCode i_19, [])
def b_19 : zS := (sSeq (sSeq (sCpy (pL 3 1) (pI 0) (p1 (oGf 4 0 3) (pL 3 0)) (pI 0) (pL 1 2))
  (sSeq (sPf (eP (pL 3 0)) 4 1 1 (eP (pL 1 2)))
  (sSeq (sPf (eP (pL 3 0)) 4 2 1 (eP (pI 0)))
  (sSeq (sSt 1 3 (eCall 20 [(eP (pL 3 0)), (eP (pI 0))]))
  (sSeq (sWh (cP (kI .lt (pL 1 3) (p1 (oGf 4 1 1) (pL 3 0))))
  (sSt 1 3 (eCall 20 [(eP (pL 3 0)), (eCall 22 [(eP (pL 3 0)), (eP (pL 1 3))])]))
  sSkip)
  (sCall 21 [(eP (pL 3 0)), (eP (pI 0)), (eP (p1 (oGf 4 1 1) (pL 3 0))), (eP (pI 0))]))))))
  sRet0)
theorem k_19 : b_19.1.1 x_19 (0, true, []) = some ((60, false, []), [], []) := by decide +kernel
/-- LazyForms$Tokens.behindBlanks -/
def i_20 : List (Nat × Instr × Nat) := [(0, .iload_n 1, 1), (1, .istore_n 2, 1), (2, .aload_n 0, 1), (3, .iload_n 2, 1), (4, .invokevirtual 59, 3), (7, .bipush 32, 2), (9, .if_icmp .eq 35, 3), (12, .aload_n 0, 1), (13, .iload_n 2, 1), (14, .invokevirtual 59, 3), (17, .bipush 10, 2), (19, .if_icmp .eq 25, 3), (22, .aload_n 0, 1), (23, .iload_n 2, 1), (24, .invokevirtual 59, 3), (27, .bipush 45, 2), (29, .if_icmp .ne 55, 3), (32, .aload_n 0, 1), (33, .iload_n 2, 1), (34, .iconst 1, 1), (35, .iadd, 1), (36, .invokevirtual 59, 3), (39, .bipush 45, 2), (41, .if_icmp .ne 43, 3), (44, .aload_n 0, 1), (45, .iload_n 2, 1), (46, .invokevirtual 59, 3), (49, .bipush 45, 2), (51, .if_icmp .ne 27, 3), (54, .iload_n 2, 1), (55, .aload_n 0, 1), (56, .getfield 25, 3), (59, .if_icmp .ge (-57), 3), (62, .aload_n 0, 1), (63, .iload_n 2, 1), (64, .invokevirtual 59, 3), (67, .bipush 10, 2), (69, .if_icmp .eq (-67), 3), (72, .iinc 2 1, 3), (75, .goto (-21), 3), (78, .iinc 2 1, 3), (81, .goto (-79), 3), (84, .iload_n 2, 1), (85, .ireturn, 1)]
def x_20 : zCx := (4, false, 1, zCode i_20, [])
def b_20 : zS := (sSeq (sSt 1 2 (eP (pL 1 1)))
  (sSeq (sWh (cOr (cOr (cI .eq (eCall 14 [(eP (pL 3 0)), (eP (pL 1 2))]) (eP (pI 32))) (cI .eq (eCall 14 [(eP (pL 3 0)), (eP (pL 1 2))]) (eP (pI 10)))) (cAnd (cI .eq (eCall 14 [(eP (pL 3 0)), (eP (pL 1 2))]) (eP (pI 45))) (cI .eq (eCall 14 [(eP (pL 3 0)), (eP (p2 oAdd (pL 1 2) (pI 1)))]) (eP (pI 45)))))
  (sIfE (cI .eq (eCall 14 [(eP (pL 3 0)), (eP (pL 1 2))]) (eP (pI 45)))
  (sWh (cAnd (cP (kI .lt (pL 1 2) (p1 (oGf 4 1 1) (pL 3 0)))) (cI .ne (eCall 14 [(eP (pL 3 0)), (eP (pL 1 2))]) (eP (pI 10))))
  (sInc 2 1)
  sSkip)
  (sInc 2 1))
  sSkip)
  (sRet 1 (eP (pL 1 2)))))
theorem k_20 : b_20.1.1 x_20 (0, true, []) = some ((86, false, []), [], []) := by decide +kernel
/-- LazyForms$Tokens.add -/
def i_21 : List (Nat × Instr × Nat) := [(0, .aload_n 0, 1), (1, .getfield 15, 3), (4, .aload_n 0, 1), (5, .getfield 45, 3), (8, .iload_n 1, 1), (9, .iastore, 1), (10, .aload_n 0, 1), (11, .getfield 19, 3), (14, .aload_n 0, 1), (15, .getfield 45, 3), (18, .iload_n 2, 1), (19, .iastore, 1), (20, .aload_n 0, 1), (21, .getfield 22, 3), (24, .aload_n 0, 1), (25, .getfield 45, 3), (28, .iload_n 3, 1), (29, .iastore, 1), (30, .aload_n 0, 1), (31, .dup, 1), (32, .getfield 45, 3), (35, .iconst 1, 1), (36, .iadd, 1), (37, .putfield 45, 3), (40, .iload_n 2, 1), (41, .iload_n 3, 1), (42, .iadd, 1), (43, .ireturn, 1)]
def x_21 : zCx := (4, false, 1, zCode i_21, [])
def b_21 : zS := (sSeq (sSe 1 (eP (p1 (oGf 4 3 3) (pL 3 0))) (eP (p1 (oGf 4 2 1) (pL 3 0))) (eP (pL 1 1)))
  (sSeq (sSe 1 (eP (p1 (oGf 4 4 3) (pL 3 0))) (eP (p1 (oGf 4 2 1) (pL 3 0))) (eP (pL 1 2)))
  (sSeq (sSe 1 (eP (p1 (oGf 4 5 3) (pL 3 0))) (eP (p1 (oGf 4 2 1) (pL 3 0))) (eP (pL 1 3)))
  (sSeq (sPfo (eP (pL 3 0)) 4 2 1 oAdd (eP (pI 1)))
  (sRet 1 (eP (p2 oAdd (pL 1 2) (pL 1 3))))))))
theorem k_21 : b_21.1.1 x_21 (0, true, []) = some ((44, false, []), [], []) := by decide +kernel
/-- LazyForms$Tokens.one -/
def i_22 : List (Nat × Instr × Nat) := [(0, .aload_n 0, 1), (1, .iload_n 1, 1), (2, .invokevirtual 59, 3), (5, .istore_n 2, 1), (6, .iload_n 2, 1), (7, .invokestatic 29, 3), (10, .ifCond .ne 10, 3), (13, .iload_n 2, 1), (14, .invokestatic 33, 3), (17, .ifCond .eq 9, 3), (20, .aload_n 0, 1), (21, .iload_n 1, 1), (22, .invokevirtual 62, 3), (25, .ireturn, 1), (26, .iload_n 2, 1), (27, .invokestatic 36, 3), (30, .ifCond .eq 9, 3), (33, .aload_n 0, 1), (34, .iload_n 1, 1), (35, .invokevirtual 65, 3), (38, .ireturn, 1), (39, .aload_n 0, 1), (40, .iload_n 1, 1), (41, .iconst 1, 1), (42, .iadd, 1), (43, .invokevirtual 59, 3), (46, .istore_n 3, 1), (47, .iload_n 2, 1), (48, .lookupswitch 284 #[(40, 116), (41, 125), (42, 179), (43, 170), (45, 206), (47, 188), (59, 152), (60, 258), (61, 232), (92, 161), (95, 197), (123, 134), (125, 143)], 116), (164, .aload_n 0, 1), (165, .bipush 9, 2), (167, .iload_n 1, 1), (168, .iconst 1, 1), (169, .invokevirtual 55, 3), (172, .ireturn, 1), (173, .aload_n 0, 1), (174, .bipush 10, 2), (176, .iload_n 1, 1), (177, .iconst 1, 1), (178, .invokevirtual 55, 3), (181, .ireturn, 1), (182, .aload_n 0, 1), (183, .bipush 11, 2), (185, .iload_n 1, 1), (186, .iconst 1, 1), (187, .invokevirtual 55, 3), (190, .ireturn, 1), (191, .aload_n 0, 1), (192, .bipush 12, 2), (194, .iload_n 1, 1), (195, .iconst 1, 1), (196, .invokevirtual 55, 3), (199, .ireturn, 1), (200, .aload_n 0, 1), (201, .bipush 13, 2), (203, .iload_n 1, 1), (204, .iconst 1, 1), (205, .invokevirtual 55, 3), (208, .ireturn, 1), (209, .aload_n 0, 1), (210, .bipush 16, 2), (212, .iload_n 1, 1), (213, .iconst 1, 1), (214, .invokevirtual 55, 3), (217, .ireturn, 1), (218, .aload_n 0, 1), (219, .bipush 17, 2), (221, .iload_n 1, 1), (222, .iconst 1, 1), (223, .invokevirtual 55, 3), (226, .ireturn, 1), (227, .aload_n 0, 1), (228, .bipush 19, 2), (230, .iload_n 1, 1), (231, .iconst 1, 1), (232, .invokevirtual 55, 3), (235, .ireturn, 1), (236, .aload_n 0, 1), (237, .bipush 20, 2), (239, .iload_n 1, 1), (240, .iconst 1, 1), (241, .invokevirtual 55, 3), (244, .ireturn, 1), (245, .aload_n 0, 1), (246, .bipush 24, 2), (248, .iload_n 1, 1), (249, .iconst 1, 1), (250, .invokevirtual 55, 3), (253, .ireturn, 1), (254, .iload_n 3, 1), (255, .bipush 62, 2), (257, .if_icmp .ne 14, 3), (260, .aload_n 0, 1), (261, .bipush 15, 2), (263, .iload_n 1, 1), (264, .iconst 2, 1), (265, .invokevirtual 55, 3), (268, .goto 11, 3), (271, .aload_n 0, 1), (272, .bipush 18, 2), (274, .iload_n 1, 1), (275, .iconst 1, 1), (276, .invokevirtual 55, 3), (279, .ireturn, 1), (280, .iload_n 3, 1), (281, .bipush 61, 2), (283, .if_icmp .ne 14, 3), (286, .aload_n 0, 1), (287, .bipush 23, 2), (289, .iload_n 1, 1), (290, .iconst 2, 1), (291, .invokevirtual 55, 3), (294, .goto 11, 3), (297, .aload_n 0, 1), (298, .bipush 14, 2), (300, .iload_n 1, 1), (301, .iconst 1, 1), (302, .invokevirtual 55, 3), (305, .ireturn, 1), (306, .iload_n 3, 1), (307, .bipush 61, 2), (309, .if_icmp .ne 14, 3), (312, .aload_n 0, 1), (313, .bipush 22, 2), (315, .iload_n 1, 1), (316, .iconst 2, 1), (317, .invokevirtual 55, 3), (320, .goto 11, 3), (323, .aload_n 0, 1), (324, .bipush 21, 2), (326, .iload_n 1, 1), (327, .iconst 1, 1), (328, .invokevirtual 55, 3), (331, .ireturn, 1), (332, .aload_n 0, 1), (333, .iconst 1, 1), (334, .iload_n 1, 1), (335, .iconst 1, 1), (336, .invokevirtual 55, 3), (339, .ireturn, 1)]
def x_22 : zCx := (4, false, 1, zCode i_22, [])
def b_22 : zS := (sSeq (sSt 1 2 (eCall 14 [(eP (pL 3 0)), (eP (pL 1 1))]))
  (sSeq (sIf (cOr (c0 .ne (eCall 15 [(eP (pL 1 2))])) (c0 .ne (eCall 16 [(eP (pL 1 2))])))
  (sRet 1 (eCall 23 [(eP (pL 3 0)), (eP (pL 1 1))])))
  (sSeq (sIf (c0 .ne (eCall 17 [(eP (pL 1 2))]))
  (sRet 1 (eCall 25 [(eP (pL 3 0)), (eP (pL 1 1))])))
  (sSeq (sSt 1 3 (eCall 14 [(eP (pL 3 0)), (eP (p2 oAdd (pL 1 1) (pI 1)))]))
  (sSw (eP (pL 1 2)) [(40, 0), (41, 1), (42, 7), (43, 6), (45, 10), (47, 8), (59, 4), (60, 12), (61, 11), (92, 5), (95, 9), (123, 2), (125, 3)] 13 [(sRet 1 (eCall 21 [(eP (pL 3 0)), (eP (pI 9)), (eP (pL 1 1)), (eP (pI 1))])),
  (sRet 1 (eCall 21 [(eP (pL 3 0)), (eP (pI 10)), (eP (pL 1 1)), (eP (pI 1))])),
  (sRet 1 (eCall 21 [(eP (pL 3 0)), (eP (pI 11)), (eP (pL 1 1)), (eP (pI 1))])),
  (sRet 1 (eCall 21 [(eP (pL 3 0)), (eP (pI 12)), (eP (pL 1 1)), (eP (pI 1))])),
  (sRet 1 (eCall 21 [(eP (pL 3 0)), (eP (pI 13)), (eP (pL 1 1)), (eP (pI 1))])),
  (sRet 1 (eCall 21 [(eP (pL 3 0)), (eP (pI 16)), (eP (pL 1 1)), (eP (pI 1))])),
  (sRet 1 (eCall 21 [(eP (pL 3 0)), (eP (pI 17)), (eP (pL 1 1)), (eP (pI 1))])),
  (sRet 1 (eCall 21 [(eP (pL 3 0)), (eP (pI 19)), (eP (pL 1 1)), (eP (pI 1))])),
  (sRet 1 (eCall 21 [(eP (pL 3 0)), (eP (pI 20)), (eP (pL 1 1)), (eP (pI 1))])),
  (sRet 1 (eCall 21 [(eP (pL 3 0)), (eP (pI 24)), (eP (pL 1 1)), (eP (pI 1))])),
  (sRet 1 (eIte (cP (kI .eq (pL 1 3) (pI 62))) (eCall 21 [(eP (pL 3 0)), (eP (pI 15)), (eP (pL 1 1)), (eP (pI 2))]) (eCall 21 [(eP (pL 3 0)), (eP (pI 18)), (eP (pL 1 1)), (eP (pI 1))]))),
  (sRet 1 (eIte (cP (kI .eq (pL 1 3) (pI 61))) (eCall 21 [(eP (pL 3 0)), (eP (pI 23)), (eP (pL 1 1)), (eP (pI 2))]) (eCall 21 [(eP (pL 3 0)), (eP (pI 14)), (eP (pL 1 1)), (eP (pI 1))]))),
  (sRet 1 (eIte (cP (kI .eq (pL 1 3) (pI 61))) (eCall 21 [(eP (pL 3 0)), (eP (pI 22)), (eP (pL 1 1)), (eP (pI 2))]) (eCall 21 [(eP (pL 3 0)), (eP (pI 21)), (eP (pL 1 1)), (eP (pI 1))]))),
  (sRet 1 (eCall 21 [(eP (pL 3 0)), (eP (pI 1)), (eP (pL 1 1)), (eP (pI 1))]))])))))
theorem k_22 : b_22.1.1 x_22 (0, true, []) = some ((340, false, []), [], []) := by decide +kernel
/-- LazyForms$Tokens.word -/
def i_23 : List (Nat × Instr × Nat) := [(0, .iload_n 1, 1), (1, .istore_n 2, 1), (2, .aload_n 0, 1), (3, .iload_n 2, 1), (4, .invokevirtual 59, 3), (7, .invokestatic 68, 3), (10, .ifCond .eq 9, 3), (13, .iinc 2 1, 3), (16, .goto (-14), 3), (19, .iload_n 2, 1), (20, .iload_n 1, 1), (21, .isub, 1), (22, .istore_n 3, 1), (23, .iload_n 3, 1), (24, .bipush 12, 2), (26, .if_icmp .le 11, 3), (29, .aload_n 0, 1), (30, .iconst 1, 1), (31, .iload_n 1, 1), (32, .iload_n 3, 1), (33, .invokevirtual 55, 3), (36, .ireturn, 1), (37, .aload_n 0, 1), (38, .iload_n 1, 1), (39, .invokevirtual 59, 3), (42, .invokestatic 33, 3), (45, .ifCond .eq 11, 3), (48, .aload_n 0, 1), (49, .iconst 3, 1), (50, .iload_n 1, 1), (51, .iload_n 3, 1), (52, .invokevirtual 55, 3), (55, .ireturn, 1), (56, .aload_n 0, 1), (57, .iload_n 1, 1), (58, .iload_n 3, 1), (59, .bipush 108, 2), (61, .bipush 101, 2), (63, .bipush 116, 2), (65, .invokevirtual 71, 3), (68, .ifCond .eq 7, 3), (71, .iconst 5, 1), (72, .goto 79, 3), (75, .aload_n 0, 1), (76, .iload_n 1, 1), (77, .iload_n 3, 1), (78, .bipush 105, 2), (80, .bipush 110, 2), (82, .iconst 0, 1), (83, .invokevirtual 71, 3), (86, .ifCond .eq 8, 3), (89, .bipush 6, 2), (91, .goto 60, 3), (94, .aload_n 0, 1), (95, .iload_n 1, 1), (96, .iload_n 3, 1), (97, .bipush 111, 2), (99, .bipush 102, 2), (101, .iconst 0, 1), (102, .invokevirtual 71, 3), (105, .ifCond .eq 8, 3), (108, .bipush 8, 2), (110, .goto 41, 3), (113, .iload_n 3, 1), (114, .iconst 4, 1), (115, .if_icmp .ne 35, 3), (118, .aload_n 0, 1), (119, .iload_n 1, 1), (120, .iconst 3, 1), (121, .bipush 99, 2), (123, .bipush 97, 2), (125, .bipush 115, 2), (127, .invokevirtual 71, 3), (130, .ifCond .eq 20, 3), (133, .aload_n 0, 1), (134, .iload_n 1, 1), (135, .iconst 3, 1), (136, .iadd, 1), (137, .invokevirtual 59, 3), (140, .bipush 101, 2), (142, .if_icmp .ne 8, 3), (145, .bipush 7, 2), (147, .goto 4, 3), (150, .iconst 2, 1), (151, .istore 4, 2), (153, .aload_n 0, 1), (154, .iload 4, 2), (156, .iload_n 1, 1), (157, .iload_n 3, 1), (158, .invokevirtual 55, 3), (161, .ireturn, 1)]
def x_23 : zCx := (4, false, 1, zCode i_23, [])
def b_23 : zS := (sSeq (sSt 1 2 (eP (pL 1 1)))
  (sSeq (sWh (c0 .ne (eCall 18 [(eCall 14 [(eP (pL 3 0)), (eP (pL 1 2))])]))
  (sInc 2 1)
  sSkip)
  (sSeq (sSt 1 3 (eP (p2 oSub (pL 1 2) (pL 1 1))))
  (sSeq (sIf (cP (kI .gt (pL 1 3) (pI 12)))
  (sRet 1 (eCall 21 [(eP (pL 3 0)), (eP (pI 1)), (eP (pL 1 1)), (eP (pL 1 3))])))
  (sSeq (sIf (c0 .ne (eCall 16 [(eCall 14 [(eP (pL 3 0)), (eP (pL 1 1))])]))
  (sRet 1 (eCall 21 [(eP (pL 3 0)), (eP (pI 3)), (eP (pL 1 1)), (eP (pL 1 3))])))
  (sSeq (sSt 1 4 (eIte (c0 .ne (eCall 24 [(eP (pL 3 0)), (eP (pL 1 1)), (eP (pL 1 3)), (eP (pI 108)), (eP (pI 101)), (eP (pI 116))])) (eP (pI 5)) (eIte (c0 .ne (eCall 24 [(eP (pL 3 0)), (eP (pL 1 1)), (eP (pL 1 3)), (eP (pI 105)), (eP (pI 110)), (eP (pI 0))])) (eP (pI 6)) (eIte (c0 .ne (eCall 24 [(eP (pL 3 0)), (eP (pL 1 1)), (eP (pL 1 3)), (eP (pI 111)), (eP (pI 102)), (eP (pI 0))])) (eP (pI 8)) (eIte (cAnd (cAnd (cP (kI .eq (pL 1 3) (pI 4))) (c0 .ne (eCall 24 [(eP (pL 3 0)), (eP (pL 1 1)), (eP (pI 3)), (eP (pI 99)), (eP (pI 97)), (eP (pI 115))]))) (cI .eq (eCall 14 [(eP (pL 3 0)), (eP (p2 oAdd (pL 1 1) (pI 3)))]) (eP (pI 101)))) (eP (pI 7)) (eP (pI 2)))))))
  (sRet 1 (eCall 21 [(eP (pL 3 0)), (eP (pL 1 4)), (eP (pL 1 1)), (eP (pL 1 3))]))))))))
theorem k_23 : b_23.1.1 x_23 (0, true, []) = some ((162, false, []), [], []) := by decide +kernel
/-- LazyForms$Tokens.isThe -/
def i_24 : List (Nat × Instr × Nat) := [(0, .iload_n 2, 1), (1, .iload 5, 2), (3, .ifCond .ne 7, 3), (6, .iconst 2, 1), (7, .goto 4, 3), (10, .iconst 3, 1), (11, .if_icmp .ne 45, 3), (14, .aload_n 0, 1), (15, .iload_n 1, 1), (16, .invokevirtual 59, 3), (19, .iload_n 3, 1), (20, .if_icmp .ne 36, 3), (23, .aload_n 0, 1), (24, .iload_n 1, 1), (25, .iconst 1, 1), (26, .iadd, 1), (27, .invokevirtual 59, 3), (30, .iload 4, 2), (32, .if_icmp .ne 24, 3), (35, .iload 5, 2), (37, .ifCond .eq 15, 3), (40, .aload_n 0, 1), (41, .iload_n 1, 1), (42, .iconst 2, 1), (43, .iadd, 1), (44, .invokevirtual 59, 3), (47, .iload 5, 2), (49, .if_icmp .ne 7, 3), (52, .iconst 1, 1), (53, .goto 4, 3), (56, .iconst 0, 1), (57, .ireturn, 1)]
def x_24 : zCx := (4, false, 4, zCode i_24, [])
def b_24 : zS := (sRet 4 (eB (cAnd (cAnd (cAnd (cP (kI .eq (pL 1 2) (pIte (k0 .eq (pL 1 5)) (pI 2) (pI 3)))) (cI .eq (eCall 14 [(eP (pL 3 0)), (eP (pL 1 1))]) (eP (pL 1 3)))) (cI .eq (eCall 14 [(eP (pL 3 0)), (eP (p2 oAdd (pL 1 1) (pI 1)))]) (eP (pL 1 4)))) (cOr (cP (k0 .eq (pL 1 5))) (cI .eq (eCall 14 [(eP (pL 3 0)), (eP (p2 oAdd (pL 1 1) (pI 2)))]) (eP (pL 1 5)))))))
theorem k_24 : b_24.1.1 x_24 (0, true, []) = some ((58, false, []), [], []) := by decide +kernel
/-- LazyForms$Tokens.number -/
def i_25 : List (Nat × Instr × Nat) := [(0, .iload_n 1, 1), (1, .istore_n 2, 1), (2, .aload_n 0, 1), (3, .iload_n 2, 1), (4, .invokevirtual 59, 3), (7, .invokestatic 36, 3), (10, .ifCond .eq 9, 3), (13, .iinc 2 1, 3), (16, .goto (-14), 3), (19, .iload_n 2, 1), (20, .iload_n 1, 1), (21, .isub, 1), (22, .bipush 9, 2), (24, .if_icmp .gt 24, 3), (27, .aload_n 0, 1), (28, .iload_n 1, 1), (29, .invokevirtual 59, 3), (32, .bipush 48, 2), (34, .if_icmp .ne 10, 3), (37, .iload_n 2, 1), (38, .iload_n 1, 1), (39, .isub, 1), (40, .iconst 1, 1), (41, .if_icmp .ne 7, 3), (44, .iconst 1, 1), (45, .goto 4, 3), (48, .iconst 0, 1), (49, .istore_n 3, 1), (50, .aload_n 0, 1), (51, .iload_n 3, 1), (52, .ifCond .eq 7, 3), (55, .iconst 4, 1), (56, .goto 4, 3), (59, .iconst 1, 1), (60, .iload_n 1, 1), (61, .iload_n 2, 1), (62, .iload_n 1, 1), (63, .isub, 1), (64, .invokevirtual 55, 3), (67, .ireturn, 1)]
def x_25 : zCx := (4, false, 1, zCode i_25, [])
def b_25 : zS := (sSeq (sSt 1 2 (eP (pL 1 1)))
  (sSeq (sWh (c0 .ne (eCall 17 [(eCall 14 [(eP (pL 3 0)), (eP (pL 1 2))])]))
  (sInc 2 1)
  sSkip)
  (sSeq (sSt 1 3 (eB (cAnd (cP (kI .le (p2 oSub (pL 1 2) (pL 1 1)) (pI 9))) (cOr (cI .ne (eCall 14 [(eP (pL 3 0)), (eP (pL 1 1))]) (eP (pI 48))) (cP (kI .eq (p2 oSub (pL 1 2) (pL 1 1)) (pI 1)))))))
  (sRet 1 (eCall 21 [(eP (pL 3 0)), (eP (pIte (k0 .ne (pL 1 3)) (pI 4) (pI 1))), (eP (pL 1 1)), (eP (p2 oSub (pL 1 2) (pL 1 1)))])))))
theorem k_25 : b_25.1.1 x_25 (0, true, []) = some ((68, false, []), [], []) := by decide +kernel
/-- LazyForms$Tokens.value -/
def i_26 : List (Nat × Instr × Nat) := [(0, .iconst 0, 1), (1, .istore_n 2, 1), (2, .iconst 0, 1), (3, .istore_n 3, 1), (4, .iload_n 3, 1), (5, .aload_n 0, 1), (6, .getfield 22, 3), (9, .iload_n 1, 1), (10, .iaload, 1), (11, .if_icmp .ge 31, 3), (14, .bipush 10, 2), (16, .iload_n 2, 1), (17, .imul, 1), (18, .aload_n 0, 1), (19, .getfield 9, 3), (22, .aload_n 0, 1), (23, .getfield 19, 3), (26, .iload_n 1, 1), (27, .iaload, 1), (28, .iload_n 3, 1), (29, .iadd, 1), (30, .baload, 1), (31, .iadd, 1), (32, .bipush 48, 2), (34, .isub, 1), (35, .istore_n 2, 1), (36, .iinc 3 1, 3), (39, .goto (-35), 3), (42, .iload_n 2, 1), (43, .ireturn, 1)]
def x_26 : zCx := (4, false, 1, zCode i_26, [])
def b_26 : zS := (sSeq (sSt 1 2 (eP (pI 0)))
  (sSeq (sBlk 3 (sSeq (sSt 1 3 (eP (pI 0)))
  (sWh (cP (kI .lt (pL 1 3) (p2 oIald (p1 (oGf 4 5 3) (pL 3 0)) (pL 1 1))))
  (sSt 1 2 (eP (p2 oSub (p2 oAdd (p2 oMul (pI 10) (pL 1 2)) (p2 oBald (p1 (oGf 4 0 3) (pL 3 0)) (p2 oAdd (p2 oIald (p1 (oGf 4 4 3) (pL 3 0)) (pL 1 1)) (pL 1 3)))) (pI 48))))
  (sInc 3 1))))
  (sRet 1 (eP (pL 1 2)))))
theorem k_26 : b_26.1.1 x_26 (0, true, []) = some ((44, false, []), [], []) := by decide +kernel
/-- LazyForms$Tokens.same -/
def i_27 : List (Nat × Instr × Nat) := [(0, .aload_n 0, 1), (1, .getfield 22, 3), (4, .iload_n 1, 1), (5, .iaload, 1), (6, .aload_n 0, 1), (7, .getfield 22, 3), (10, .iload_n 2, 1), (11, .iaload, 1), (12, .if_icmp .eq 5, 3), (15, .iconst 0, 1), (16, .ireturn, 1), (17, .iconst 0, 1), (18, .istore_n 3, 1), (19, .iload_n 3, 1), (20, .aload_n 0, 1), (21, .getfield 22, 3), (24, .iload_n 1, 1), (25, .iaload, 1), (26, .if_icmp .ge 40, 3), (29, .aload_n 0, 1), (30, .getfield 9, 3), (33, .aload_n 0, 1), (34, .getfield 19, 3), (37, .iload_n 1, 1), (38, .iaload, 1), (39, .iload_n 3, 1), (40, .iadd, 1), (41, .baload, 1), (42, .aload_n 0, 1), (43, .getfield 9, 3), (46, .aload_n 0, 1), (47, .getfield 19, 3), (50, .iload_n 2, 1), (51, .iaload, 1), (52, .iload_n 3, 1), (53, .iadd, 1), (54, .baload, 1), (55, .if_icmp .eq 5, 3), (58, .iconst 0, 1), (59, .ireturn, 1), (60, .iinc 3 1, 3), (63, .goto (-44), 3), (66, .iconst 1, 1), (67, .ireturn, 1)]
def x_27 : zCx := (4, false, 4, zCode i_27, [])
def b_27 : zS := (sSeq (sIf (cP (kI .ne (p2 oIald (p1 (oGf 4 5 3) (pL 3 0)) (pL 1 1)) (p2 oIald (p1 (oGf 4 5 3) (pL 3 0)) (pL 1 2))))
  (sRet 4 (eP (pI 0))))
  (sSeq (sBlk 3 (sSeq (sSt 1 3 (eP (pI 0)))
  (sWh (cP (kI .lt (pL 1 3) (p2 oIald (p1 (oGf 4 5 3) (pL 3 0)) (pL 1 1))))
  (sIf (cP (kI .ne (p2 oBald (p1 (oGf 4 0 3) (pL 3 0)) (p2 oAdd (p2 oIald (p1 (oGf 4 4 3) (pL 3 0)) (pL 1 1)) (pL 1 3))) (p2 oBald (p1 (oGf 4 0 3) (pL 3 0)) (p2 oAdd (p2 oIald (p1 (oGf 4 4 3) (pL 3 0)) (pL 1 2)) (pL 1 3)))))
  (sRet 4 (eP (pI 0))))
  (sInc 3 1))))
  (sRet 4 (eP (pI 1)))))
theorem k_27 : b_27.1.1 x_27 (0, true, []) = some ((68, false, []), [], []) := by decide +kernel
/-- LazyForms$Tokens.<init> -/
def i_28 : List (Nat × Instr × Nat) := [(0, .aload_n 0, 1), (1, .invokespecial 3, 3), (4, .aload_n 0, 1), (5, .sipush 2000, 3), (8, .newarray .byte, 2), (10, .putfield 9, 3), (13, .aload_n 0, 1), (14, .sipush 2002, 3), (17, .newarray .int, 2), (19, .putfield 15, 3), (22, .aload_n 0, 1), (23, .sipush 2002, 3), (26, .newarray .int, 2), (28, .putfield 19, 3), (31, .aload_n 0, 1), (32, .sipush 2002, 3), (35, .newarray .int, 2), (37, .putfield 22, 3), (40, .return_, 1)]
def x_28 : zCx := (4, true, 0, zCode i_28, [])
def b_28 : zS := (sSeq sSup
  (sSeq (sPf (eP (pL 3 0)) 4 0 3 (eNewA .byte (pI 2000)))
  (sSeq (sPf (eP (pL 3 0)) 4 3 3 (eNewA .int (pI 2002)))
  (sSeq (sPf (eP (pL 3 0)) 4 4 3 (eNewA .int (pI 2002)))
  (sSeq (sPf (eP (pL 3 0)) 4 5 3 (eNewA .int (pI 2002)))
  sRet0)))))
theorem k_28 : b_28.1.1 x_28 (0, true, []) = some ((41, false, []), [], []) := by decide +kernel
/-- LazyForms$Tree.clear -/
def i_29 : List (Nat × Instr × Nat) := [(0, .aload_n 0, 1), (1, .iconst 0, 1), (2, .putfield 55, 3), (5, .aload_n 0, 1), (6, .iconst 0, 1), (7, .putfield 59, 3), (10, .aload_n 0, 1), (11, .iconst 0, 1), (12, .putfield 62, 3), (15, .aload_n 0, 1), (16, .iconst (-1), 1), (17, .putfield 65, 3), (20, .return_, 1)]
def x_29 : zCx := (5, false, 0, zCode i_29, [])
def b_29 : zS := (sSeq (sSeq (sPf (eP (pL 3 0)) 5 8 1 (eP (pI 0)))
  (sSeq (sPf (eP (pL 3 0)) 5 11 1 (eP (pI 0)))
  (sSeq (sPf (eP (pL 3 0)) 5 16 1 (eP (pI 0)))
  (sPf (eP (pL 3 0)) 5 17 1 (eP (pI (-1)))))))
  sRet0)
theorem k_29 : b_29.1.1 x_29 (0, true, []) = some ((21, false, []), [], []) := by decide +kernel
/-- LazyForms$Tree.add -/
def i_30 : List (Nat × Instr × Nat) := [(0, .aload_n 0, 1), (1, .getfield 55, 3), (4, .istore 6, 2), (6, .aload_n 0, 1), (7, .dup, 1), (8, .getfield 55, 3), (11, .iconst 1, 1), (12, .iadd, 1), (13, .putfield 55, 3), (16, .aload_n 0, 1), (17, .getfield 9, 3), (20, .iload 6, 2), (22, .iload_n 1, 1), (23, .iastore, 1), (24, .aload_n 0, 1), (25, .getfield 15, 3), (28, .iload 6, 2), (30, .iload_n 2, 1), (31, .iastore, 1), (32, .aload_n 0, 1), (33, .getfield 18, 3), (36, .iload 6, 2), (38, .iload_n 3, 1), (39, .iastore, 1), (40, .aload_n 0, 1), (41, .getfield 21, 3), (44, .iload 6, 2), (46, .iload 4, 2), (48, .iastore, 1), (49, .aload_n 0, 1), (50, .getfield 24, 3), (53, .iload 6, 2), (55, .iload 5, 2), (57, .iastore, 1), (58, .aload_n 0, 1), (59, .getfield 27, 3), (62, .iload 6, 2), (64, .iconst 0, 1), (65, .iastore, 1), (66, .aload_n 0, 1), (67, .getfield 30, 3), (70, .iload 6, 2), (72, .iconst (-1), 1), (73, .iastore, 1), (74, .aload_n 0, 1), (75, .getfield 33, 3), (78, .iload 6, 2), (80, .iconst (-1), 1), (81, .iastore, 1), (82, .iload 6, 2), (84, .ireturn, 1)]
def x_30 : zCx := (5, false, 1, zCode i_30, [])
def b_30 : zS := (sSeq (sSt 1 6 (eP (p1 (oGf 5 8 1) (pL 3 0))))
  (sSeq (sPfo (eP (pL 3 0)) 5 8 1 oAdd (eP (pI 1)))
  (sSeq (sSe 1 (eP (p1 (oGf 5 0 3) (pL 3 0))) (eP (pL 1 6)) (eP (pL 1 1)))
  (sSeq (sSe 1 (eP (p1 (oGf 5 1 3) (pL 3 0))) (eP (pL 1 6)) (eP (pL 1 2)))
  (sSeq (sSe 1 (eP (p1 (oGf 5 2 3) (pL 3 0))) (eP (pL 1 6)) (eP (pL 1 3)))
  (sSeq (sSe 1 (eP (p1 (oGf 5 3 3) (pL 3 0))) (eP (pL 1 6)) (eP (pL 1 4)))
  (sSeq (sSe 1 (eP (p1 (oGf 5 4 3) (pL 3 0))) (eP (pL 1 6)) (eP (pL 1 5)))
  (sSeq (sSe 1 (eP (p1 (oGf 5 5 3) (pL 3 0))) (eP (pL 1 6)) (eP (pI 0)))
  (sSeq (sSe 1 (eP (p1 (oGf 5 6 3) (pL 3 0))) (eP (pL 1 6)) (eP (pI (-1))))
  (sSeq (sSe 1 (eP (p1 (oGf 5 7 3) (pL 3 0))) (eP (pL 1 6)) (eP (pI (-1))))
  (sRet 1 (eP (pL 1 6)))))))))))))
theorem k_30 : b_30.1.1 x_30 (0, true, []) = some ((85, false, []), [], []) := by decide +kernel
/-- LazyForms$Tree.find -/
def i_31 : List (Nat × Instr × Nat) := [(0, .iconst 0, 1), (1, .istore 4, 2), (3, .iload 4, 2), (5, .aload_n 0, 1), (6, .getfield 59, 3), (9, .if_icmp .ge 41, 3), (12, .aload_n 0, 1), (13, .getfield 40, 3), (16, .iload 4, 2), (18, .iaload, 1), (19, .iload_n 3, 1), (20, .if_icmp .ne 24, 3), (23, .aload_n 0, 1), (24, .getfield 36, 3), (27, .bipush 12, 2), (29, .iload 4, 2), (31, .imul, 1), (32, .aload_n 1, 1), (33, .iload_n 2, 1), (34, .iload_n 3, 1), (35, .invokestatic 68, 3), (38, .ifCond .eq 6, 3), (41, .iload 4, 2), (43, .ireturn, 1), (44, .iinc 4 1, 3), (47, .goto (-44), 3), (50, .iconst (-1), 1), (51, .ireturn, 1)]
def x_31 : zCx := (5, false, 1, zCode i_31, [])
def b_31 : zS := (sSeq (sBlk 4 (sSeq (sSt 1 4 (eP (pI 0)))
  (sWh (cP (kI .lt (pL 1 4) (p1 (oGf 5 11 1) (pL 3 0))))
  (sIf (cAnd (cP (kI .eq (p2 oIald (p1 (oGf 5 10 3) (pL 3 0)) (pL 1 4)) (pL 1 3))) (c0 .ne (eCall 34 [(eP (p1 (oGf 5 9 3) (pL 3 0))), (eP (p2 oMul (pI 12) (pL 1 4))), (eP (pL 3 1)), (eP (pL 1 2)), (eP (pL 1 3))])))
  (sRet 1 (eP (pL 1 4))))
  (sInc 4 1))))
  (sRet 1 (eP (pI (-1)))))
theorem k_31 : b_31.1.1 x_31 (0, true, []) = some ((52, false, []), [], []) := by decide +kernel
/-- LazyForms$Tree.addMaker -/
def i_32 : List (Nat × Instr × Nat) := [(0, .iconst 0, 1), (1, .istore 4, 2), (3, .iload 4, 2), (5, .iload_n 3, 1), (6, .if_icmp .ge 30, 3), (9, .aload_n 0, 1), (10, .getfield 36, 3), (13, .bipush 12, 2), (15, .aload_n 0, 1), (16, .getfield 59, 3), (19, .imul, 1), (20, .iload 4, 2), (22, .iadd, 1), (23, .aload_n 1, 1), (24, .iload_n 2, 1), (25, .iload 4, 2), (27, .iadd, 1), (28, .baload, 1), (29, .bastore, 1), (30, .iinc 4 1, 3), (33, .goto (-30), 3), (36, .aload_n 0, 1), (37, .getfield 40, 3), (40, .aload_n 0, 1), (41, .getfield 59, 3), (44, .iload_n 3, 1), (45, .iastore, 1), (46, .aload_n 0, 1), (47, .dup, 1), (48, .getfield 59, 3), (51, .iconst 1, 1), (52, .iadd, 1), (53, .putfield 59, 3), (56, .aload_n 0, 1), (57, .getfield 59, 3), (60, .iconst 1, 1), (61, .isub, 1), (62, .ireturn, 1)]
def x_32 : zCx := (5, false, 1, zCode i_32, [])
def b_32 : zS := (sSeq (sBlk 4 (sSeq (sSt 1 4 (eP (pI 0)))
  (sWh (cP (kI .lt (pL 1 4) (pL 1 3)))
  (sSe 2 (eP (p1 (oGf 5 9 3) (pL 3 0))) (eP (p2 oAdd (p2 oMul (pI 12) (p1 (oGf 5 11 1) (pL 3 0))) (pL 1 4))) (eBy (pL 3 1) (p2 oAdd (pL 1 2) (pL 1 4))))
  (sInc 4 1))))
  (sSeq (sSe 1 (eP (p1 (oGf 5 10 3) (pL 3 0))) (eP (p1 (oGf 5 11 1) (pL 3 0))) (eP (pL 1 3)))
  (sSeq (sPfo (eP (pL 3 0)) 5 11 1 oAdd (eP (pI 1)))
  (sRet 1 (eP (p2 oSub (p1 (oGf 5 11 1) (pL 3 0)) (pI 1)))))))
theorem k_32 : b_32.1.1 x_32 (0, true, []) = some ((63, false, []), [], []) := by decide +kernel
/-- LazyForms$Tree.definition -/
def i_33 : List (Nat × Instr × Nat) := [(0, .iconst 0, 1), (1, .istore 4, 2), (3, .iload 4, 2), (5, .aload_n 0, 1), (6, .getfield 62, 3), (9, .if_icmp .ge 41, 3), (12, .aload_n 0, 1), (13, .getfield 46, 3), (16, .iload 4, 2), (18, .iaload, 1), (19, .iload_n 3, 1), (20, .if_icmp .ne 24, 3), (23, .aload_n 0, 1), (24, .getfield 43, 3), (27, .bipush 12, 2), (29, .iload 4, 2), (31, .imul, 1), (32, .aload_n 1, 1), (33, .iload_n 2, 1), (34, .iload_n 3, 1), (35, .invokestatic 68, 3), (38, .ifCond .eq 6, 3), (41, .iload 4, 2), (43, .ireturn, 1), (44, .iinc 4 1, 3), (47, .goto (-44), 3), (50, .iconst (-1), 1), (51, .ireturn, 1)]
def x_33 : zCx := (5, false, 1, zCode i_33, [])
def b_33 : zS := (sSeq (sBlk 4 (sSeq (sSt 1 4 (eP (pI 0)))
  (sWh (cP (kI .lt (pL 1 4) (p1 (oGf 5 16 1) (pL 3 0))))
  (sIf (cAnd (cP (kI .eq (p2 oIald (p1 (oGf 5 13 3) (pL 3 0)) (pL 1 4)) (pL 1 3))) (c0 .ne (eCall 34 [(eP (p1 (oGf 5 12 3) (pL 3 0))), (eP (p2 oMul (pI 12) (pL 1 4))), (eP (pL 3 1)), (eP (pL 1 2)), (eP (pL 1 3))])))
  (sRet 1 (eP (pL 1 4))))
  (sInc 4 1))))
  (sRet 1 (eP (pI (-1)))))
theorem k_33 : b_33.1.1 x_33 (0, true, []) = some ((52, false, []), [], []) := by decide +kernel
/-- LazyForms$Tree.isAt -/
def i_34 : List (Nat × Instr × Nat) := [(0, .iconst 0, 1), (1, .istore 5, 2), (3, .iload 5, 2), (5, .iload 4, 2), (7, .if_icmp .ge 26, 3), (10, .aload_n 0, 1), (11, .iload_n 1, 1), (12, .iload 5, 2), (14, .iadd, 1), (15, .baload, 1), (16, .aload_n 2, 1), (17, .iload_n 3, 1), (18, .iload 5, 2), (20, .iadd, 1), (21, .baload, 1), (22, .if_icmp .eq 5, 3), (25, .iconst 0, 1), (26, .ireturn, 1), (27, .iinc 5 1, 3), (30, .goto (-27), 3), (33, .iconst 1, 1), (34, .ireturn, 1)]
def x_34 : zCx := (5, false, 4, zCode i_34, [])
def b_34 : zS := (sSeq (sBlk 5 (sSeq (sSt 1 5 (eP (pI 0)))
  (sWh (cP (kI .lt (pL 1 5) (pL 1 4)))
  (sIf (cP (kI .ne (p2 oBald (pL 3 0) (p2 oAdd (pL 1 1) (pL 1 5))) (p2 oBald (pL 3 2) (p2 oAdd (pL 1 3) (pL 1 5)))))
  (sRet 4 (eP (pI 0))))
  (sInc 5 1))))
  (sRet 4 (eP (pI 1))))
theorem k_34 : b_34.1.1 x_34 (0, true, []) = some ((35, false, []), [], []) := by decide +kernel
/-- LazyForms$Tree.<init> -/
def i_35 : List (Nat × Instr × Nat) := [(0, .aload_n 0, 1), (1, .invokespecial 3, 3), (4, .aload_n 0, 1), (5, .sipush 4096, 3), (8, .newarray .int, 2), (10, .putfield 9, 3), (13, .aload_n 0, 1), (14, .sipush 4096, 3), (17, .newarray .int, 2), (19, .putfield 15, 3), (22, .aload_n 0, 1), (23, .sipush 4096, 3), (26, .newarray .int, 2), (28, .putfield 18, 3), (31, .aload_n 0, 1), (32, .sipush 4096, 3), (35, .newarray .int, 2), (37, .putfield 21, 3), (40, .aload_n 0, 1), (41, .sipush 4096, 3), (44, .newarray .int, 2), (46, .putfield 24, 3), (49, .aload_n 0, 1), (50, .sipush 4096, 3), (53, .newarray .int, 2), (55, .putfield 27, 3), (58, .aload_n 0, 1), (59, .sipush 4096, 3), (62, .newarray .int, 2), (64, .putfield 30, 3), (67, .aload_n 0, 1), (68, .sipush 4096, 3), (71, .newarray .int, 2), (73, .putfield 33, 3), (76, .aload_n 0, 1), (77, .sipush 8400, 3), (80, .newarray .byte, 2), (82, .putfield 36, 3), (85, .aload_n 0, 1), (86, .sipush 700, 3), (89, .newarray .int, 2), (91, .putfield 40, 3), (94, .aload_n 0, 1), (95, .sipush 492, 3), (98, .newarray .byte, 2), (100, .putfield 43, 3), (103, .aload_n 0, 1), (104, .bipush 41, 2), (106, .newarray .int, 2), (108, .putfield 46, 3), (111, .aload_n 0, 1), (112, .bipush 41, 2), (114, .newarray .int, 2), (116, .putfield 49, 3), (119, .aload_n 0, 1), (120, .bipush 41, 2), (122, .newarray .int, 2), (124, .putfield 52, 3), (127, .return_, 1)]
def x_35 : zCx := (5, true, 0, zCode i_35, [])
def b_35 : zS := (sSeq sSup
  (sSeq (sPf (eP (pL 3 0)) 5 0 3 (eNewA .int (pI 4096)))
  (sSeq (sPf (eP (pL 3 0)) 5 1 3 (eNewA .int (pI 4096)))
  (sSeq (sPf (eP (pL 3 0)) 5 2 3 (eNewA .int (pI 4096)))
  (sSeq (sPf (eP (pL 3 0)) 5 3 3 (eNewA .int (pI 4096)))
  (sSeq (sPf (eP (pL 3 0)) 5 4 3 (eNewA .int (pI 4096)))
  (sSeq (sPf (eP (pL 3 0)) 5 5 3 (eNewA .int (pI 4096)))
  (sSeq (sPf (eP (pL 3 0)) 5 6 3 (eNewA .int (pI 4096)))
  (sSeq (sPf (eP (pL 3 0)) 5 7 3 (eNewA .int (pI 4096)))
  (sSeq (sPf (eP (pL 3 0)) 5 9 3 (eNewA .byte (pI 8400)))
  (sSeq (sPf (eP (pL 3 0)) 5 10 3 (eNewA .int (pI 700)))
  (sSeq (sPf (eP (pL 3 0)) 5 12 3 (eNewA .byte (pI 492)))
  (sSeq (sPf (eP (pL 3 0)) 5 13 3 (eNewA .int (pI 41)))
  (sSeq (sPf (eP (pL 3 0)) 5 14 3 (eNewA .int (pI 41)))
  (sSeq (sPf (eP (pL 3 0)) 5 15 3 (eNewA .int (pI 41)))
  sRet0)))))))))))))))
theorem k_35 : b_35.1.1 x_35 (0, true, []) = some ((128, false, []), [], []) := by decide +kernel
/-- LazyForms$Reader.is -/
def i_36 : List (Nat × Instr × Nat) := [(0, .aload_n 0, 1), (1, .getfield 12, 3), (4, .getfield 32, 3), (7, .aload_n 0, 1), (8, .getfield 35, 3), (11, .iaload, 1), (12, .iload_n 1, 1), (13, .if_icmp .ne 7, 3), (16, .iconst 1, 1), (17, .goto 4, 3), (20, .iconst 0, 1), (21, .ireturn, 1)]
def x_36 : zCx := (2, false, 4, zCode i_36, [])
def b_36 : zS := (sRet 4 (eP (pB (kI .eq (p2 oIald (p1 (oGf 4 3 3) (p1 (oGf 2 0 3) (pL 3 0))) (p1 (oGf 2 4 1) (pL 3 0))) (pL 1 1)))))
theorem k_36 : b_36.1.1 x_36 (0, true, []) = some ((22, false, []), [], []) := by decide +kernel
/-- LazyForms$Reader.takes -/
def i_37 : List (Nat × Instr × Nat) := [(0, .aload_n 0, 1), (1, .iload_n 1, 1), (2, .invokevirtual 39, 3), (5, .ifCond .ne 5, 3), (8, .iconst 0, 1), (9, .ireturn, 1), (10, .aload_n 0, 1), (11, .dup, 1), (12, .getfield 35, 3), (15, .iconst 1, 1), (16, .iadd, 1), (17, .putfield 35, 3), (20, .iconst 1, 1), (21, .ireturn, 1)]
def x_37 : zCx := (2, false, 4, zCode i_37, [])
def b_37 : zS := (sSeq (sIf (cNot (c0 .ne (eCall 36 [(eP (pL 3 0)), (eP (pL 1 1))])))
  (sRet 4 (eP (pI 0))))
  (sSeq (sPfo (eP (pL 3 0)) 2 4 1 oAdd (eP (pI 1)))
  (sRet 4 (eP (pI 1)))))
theorem k_37 : b_37.1.1 x_37 (0, true, []) = some ((22, false, []), [], []) := by decide +kernel
/-- LazyForms$Reader.fails -/
def i_38 : List (Nat × Instr × Nat) := [(0, .aload_n 0, 1), (1, .iload_n 1, 1), (2, .putfield 43, 3), (5, .aload_n 0, 1), (6, .aload_n 0, 1), (7, .getfield 12, 3), (10, .getfield 46, 3), (13, .aload_n 0, 1), (14, .getfield 35, 3), (17, .iaload, 1), (18, .putfield 49, 3), (21, .aload_n 0, 1), (22, .getfield 21, 3), (25, .athrow, 1)]
def x_38 : zCx := (2, false, 0, zCode i_38, [])
def b_38 : zS := (sSeq (sPf (eP (pL 3 0)) 2 6 1 (eP (pL 1 1)))
  (sSeq (sPf (eP (pL 3 0)) 2 7 1 (eP (p2 oIald (p1 (oGf 4 4 3) (p1 (oGf 2 0 3) (pL 3 0))) (p1 (oGf 2 4 1) (pL 3 0)))))
  (sThr (eP (p1 (oGf 2 1 3) (pL 3 0))))))
theorem k_38 : b_38.1.1 x_38 (0, true, []) = some ((26, false, []), [], []) := by decide +kernel
/-- LazyForms$Reader.need -/
def i_39 : List (Nat × Instr × Nat) := [(0, .aload_n 0, 1), (1, .iload_n 1, 1), (2, .invokevirtual 52, 3), (5, .ifCond .ne 8, 3), (8, .aload_n 0, 1), (9, .iconst 1, 1), (10, .invokevirtual 55, 3), (13, .return_, 1)]
def x_39 : zCx := (2, false, 0, zCode i_39, [])
def b_39 : zS := (sSeq (sIf (cNot (c0 .ne (eCall 37 [(eP (pL 3 0)), (eP (pL 1 1))])))
  (sCall 38 [(eP (pL 3 0)), (eP (pI 1))]))
  sRet0)
theorem k_39 : b_39.1.1 x_39 (0, true, []) = some ((14, false, []), [], []) := by decide +kernel
