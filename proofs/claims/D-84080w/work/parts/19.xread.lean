/-! LazyForms reads its tokens -/
theorem b2i_not0 (b : Bool) : (¬ b2i b = 0) = (b = true) := by cases b <;> simp [b2i]
theorem kwd_isT (tp : Nat → Int) (n p m : Nat) : kwd tp n p m = if isT tp n p m 108 101 116 = true then 5 else if isT tp n p m 105 110 0 = true then 6 else if isT tp n p m 111 102 0 = true then 8 else if m = 4 ∧ isT tp n p 3 99 97 115 = true ∧ chr tp n (p + 3) = 101 then 7 else 2 := by
  have a1 : isT tp n p m 108 101 116 = true ↔ (m = 3 ∧ chr tp n p = 108 ∧ chr tp n (p + 1) = 101 ∧ chr tp n (p + 2) = 116) := by
    simp [isT, and_assoc]; omega
  have a2 : isT tp n p m 105 110 0 = true ↔ (m = 2 ∧ chr tp n p = 105 ∧ chr tp n (p + 1) = 110) := by
    simp [isT, and_assoc]; omega
  have a3 : isT tp n p m 111 102 0 = true ↔ (m = 2 ∧ chr tp n p = 111 ∧ chr tp n (p + 1) = 102) := by
    simp [isT, and_assoc]; omega
  have a4 : (m = 4 ∧ isT tp n p 3 99 97 115 = true ∧ chr tp n (p + 3) = 101) ↔ (m = 4 ∧ chr tp n p = 99 ∧ chr tp n (p + 1) = 97 ∧ chr tp n (p + 2) = 115 ∧ chr tp n (p + 3) = 101) := by
    simp [isT, and_assoc]
  unfold kwd
  simp only [a1, a2, a3, a4]
theorem s23 (d : Nat) {tp : Nat → Int} {n p K : Nat} {σ : Mem} (h : XT tp n σ) (hp : p < n) (hc : isS (chr tp n p) = true ∨ isG (chr tp n p) = true) (hK : σ 8 2 = (K : Int)) (hK2 : K < 2002) (R T : zK)
    (hR : R ((p + (tok tp n p).2 : Nat) : Int) (addT σ K (tok tp n p).1 p (tok tp n p).2)) : zCallD (d + 3) 23 [8, (p : Int)] σ R T := by
  have ⟨hL, h1, h2, h3⟩ := h
  have ht : tok tp n p = (if 12 < wEnd tp n p - p then 1 else if isG (chr tp n p) = true then 3 else kwd tp n p (wEnd tp n p - p), wEnd tp n p - p) := by
    unfold tok
    rw [if_neg (by omega), if_pos hc]
  simp only [c_23, b_23, ↓zwq, zpq, zgq, zhq, eq_sto, eq_kill, eq_zSto, eq_mset, eq_zGd, zsq, Int.reduceToNat, List.length_cons, List.length_nil, Nat.reduceAdd, Nat.reduceLT, Nat.reduceEqDiff, Int.reduceLT, Int.reduceLE, Int.reduceEq, Int.reduceNe, Int.reduceNeg, Int.reduceAdd, Int.reduceSub, Int.reduceMul, if_true, if_false, ite_true, ite_false, reduceIte, true_and, and_true, true_implies, forall_const, decide_eq_true_eq, decide_eq_false_iff_not, Bool.not_eq_true', Bool.not_eq_false', Bool.and_eq_true, Bool.or_eq_true, Bool.and_eq_false_iff, Bool.or_eq_false_iff, Bool.not_eq_true, Bool.not_eq_false, Bool.false_eq_true, Bool.true_eq_false, false_implies, implies_true, b2i_ne, b2i_eq, zB_b2i, not_true_eq_false, not_false_eq_true, List.drop_zero, List.drop_succ_cons, zIn_iff, zI8_iff, laq hL, h1]
  have hpb : p < 2147483640 := by omega
  have hw := wEnd_le tp n p
  have hw2 := hw.2 (Nat.le_of_lt hp)
  refine lpW (fun m e s => ∃ q : Nat, m = n - q ∧ q ≤ n ∧ wEnd tp n q = wEnd tp n p ∧ s = σ ∧ e = [(3, 8), (1, (p : Int)), (1, (q : Int)), (0, 0), (0, 0)]) ?_ (n - p) _ _ ⟨p, rfl, Nat.le_of_lt hp, rfl, rfl, rfl⟩
  rintro m e s ⟨q, rfl, hq, hs, rfl, rfl⟩
  by_cases g : sWd (chr tp n q) = true
  · have e1 : w32 ((q : Int) + 1) = ((q + 1 : Nat) : Int) := w32s (by omega)
    have hn : q < n := chr_lt (by intro e; rw [e] at g; exact absurd g (by decide))
    simp only [↓zwq, zpq, zgq, zhq, eq_sto, eq_kill, eq_zSto, eq_mset, eq_zGd, zsq, Int.reduceToNat, List.length_cons, List.length_nil, Nat.reduceAdd, Nat.reduceLT, Nat.reduceEqDiff, Int.reduceLT, Int.reduceLE, Int.reduceEq, Int.reduceNe, Int.reduceNeg, Int.reduceAdd, Int.reduceSub, Int.reduceMul, if_true, if_false, ite_true, ite_false, reduceIte, true_and, and_true, true_implies, forall_const, decide_eq_true_eq, decide_eq_false_iff_not, Bool.not_eq_true', Bool.not_eq_false', Bool.and_eq_true, Bool.or_eq_true, Bool.and_eq_false_iff, Bool.or_eq_false_iff, Bool.not_eq_true, Bool.not_eq_false, Bool.false_eq_true, Bool.true_eq_false, false_implies, implies_true, b2i_ne, b2i_eq, zB_b2i, not_true_eq_false, not_false_eq_true, List.drop_zero, List.drop_succ_cons, zIn_iff, zI8_iff, laq hL, h1, s14 (d + 1) h, s18 d, g, e1]
    refine ⟨n - (q + 1), Nat.sub_lt_sub_left hn (Nat.lt_succ_self _), q + 1, rfl, hn, ?_, rfl⟩
    rw [← hs, wEnd.eq_1 tp n q, dif_pos g]
  · have hq2 : wEnd tp n p = q := by rw [← hs, wEnd, dif_neg g]
    rw [hq2] at ht hw hw2
    rw [ht] at hR
    have e1 : w32 ((q : Int) - (p : Int)) = ((q - p : Nat) : Int) := w32sub hw.1 (by omega)
    have e2 : w32 ((p : Int) + ((q - p : Nat) : Int)) = ((p + (q - p) : Nat) : Int) := w32add (by omega)
    by_cases g12 : 12 < q - p
    · have g13 : (12 : Int) < ((q - p : Nat) : Int) := by omega
      simp only [↓zwq, zpq, zgq, zhq, eq_sto, eq_kill, eq_zSto, eq_mset, eq_zGd, zsq, Int.reduceToNat, List.length_cons, List.length_nil, Nat.reduceAdd, Nat.reduceLT, Nat.reduceEqDiff, Int.reduceLT, Int.reduceLE, Int.reduceEq, Int.reduceNe, Int.reduceNeg, Int.reduceAdd, Int.reduceSub, Int.reduceMul, if_true, if_false, ite_true, ite_false, reduceIte, true_and, and_true, true_implies, forall_const, decide_eq_true_eq, decide_eq_false_iff_not, Bool.not_eq_true', Bool.not_eq_false', Bool.and_eq_true, Bool.or_eq_true, Bool.and_eq_false_iff, Bool.or_eq_false_iff, Bool.not_eq_true, Bool.not_eq_false, Bool.false_eq_true, Bool.true_eq_false, false_implies, implies_true, b2i_ne, b2i_eq, zB_b2i, not_true_eq_false, not_false_eq_true, List.drop_zero, List.drop_succ_cons, zIn_iff, zI8_iff, laq hL, h1, s14 (d + 1) h, s18 d, g, e1, g13, s21 (d + 1) hL hK hK2, e2]
      rw [if_pos g12] at hR
      exact hR
    · have g13 : ¬ (12 : Int) < ((q - p : Nat) : Int) := by omega
      rw [if_neg g12] at hR
      have e3 : w32 ((p : Int) + 3) = ((p + 3 : Nat) : Int) := w32p3 hpb
      by_cases gG : isG (chr tp n p) = true
      · simp only [↓zwq, zpq, zgq, zhq, eq_sto, eq_kill, eq_zSto, eq_mset, eq_zGd, zsq, Int.reduceToNat, List.length_cons, List.length_nil, Nat.reduceAdd, Nat.reduceLT, Nat.reduceEqDiff, Int.reduceLT, Int.reduceLE, Int.reduceEq, Int.reduceNe, Int.reduceNeg, Int.reduceAdd, Int.reduceSub, Int.reduceMul, if_true, if_false, ite_true, ite_false, reduceIte, true_and, and_true, true_implies, forall_const, decide_eq_true_eq, decide_eq_false_iff_not, Bool.not_eq_true', Bool.not_eq_false', Bool.and_eq_true, Bool.or_eq_true, Bool.and_eq_false_iff, Bool.or_eq_false_iff, Bool.not_eq_true, Bool.not_eq_false, Bool.false_eq_true, Bool.true_eq_false, false_implies, implies_true, b2i_ne, b2i_eq, zB_b2i, not_true_eq_false, not_false_eq_true, List.drop_zero, List.drop_succ_cons, zIn_iff, zI8_iff, laq hL, h1, s14 (d + 1) h, s18 d, s16, g, e1, g13, gG, s21 (d + 1) hL hK hK2, e2]
        rw [if_pos gG] at hR
        exact hR
      · rw [if_neg gG, kwd_isT] at hR
        simp only [Bool.not_eq_true] at gG
        by_cases t1 : isT tp n p ((q - p : Nat) : Int) 108 101 116 = true
        · simp only [↓zwq, zpq, zgq, zhq, eq_sto, eq_kill, eq_zSto, eq_mset, eq_zGd, zsq, Int.reduceToNat, List.length_cons, List.length_nil, Nat.reduceAdd, Nat.reduceLT, Nat.reduceEqDiff, Int.reduceLT, Int.reduceLE, Int.reduceEq, Int.reduceNe, Int.reduceNeg, Int.reduceAdd, Int.reduceSub, Int.reduceMul, if_true, if_false, ite_true, ite_false, reduceIte, true_and, and_true, true_implies, forall_const, decide_eq_true_eq, decide_eq_false_iff_not, Bool.not_eq_true', Bool.not_eq_false', Bool.and_eq_true, Bool.or_eq_true, Bool.and_eq_false_iff, Bool.or_eq_false_iff, Bool.not_eq_true, Bool.not_eq_false, Bool.false_eq_true, Bool.true_eq_false, false_implies, implies_true, b2i_ne, b2i_eq, zB_b2i, not_true_eq_false, not_false_eq_true, List.drop_zero, List.drop_succ_cons, zIn_iff, zI8_iff, laq hL, h1, s14 (d + 1) h, s18 d, s16, g, e1, g13, gG, s24 d h (Nat.le_of_lt hp), t1, s21 (d + 1) hL hK hK2, e2]
          rw [if_pos t1] at hR
          exact hR
        rw [if_neg t1] at hR
        simp only [Bool.not_eq_true] at t1
        by_cases t2 : isT tp n p ((q - p : Nat) : Int) 105 110 0 = true
        · simp only [↓zwq, zpq, zgq, zhq, eq_sto, eq_kill, eq_zSto, eq_mset, eq_zGd, zsq, Int.reduceToNat, List.length_cons, List.length_nil, Nat.reduceAdd, Nat.reduceLT, Nat.reduceEqDiff, Int.reduceLT, Int.reduceLE, Int.reduceEq, Int.reduceNe, Int.reduceNeg, Int.reduceAdd, Int.reduceSub, Int.reduceMul, if_true, if_false, ite_true, ite_false, reduceIte, true_and, and_true, true_implies, forall_const, decide_eq_true_eq, decide_eq_false_iff_not, Bool.not_eq_true', Bool.not_eq_false', Bool.and_eq_true, Bool.or_eq_true, Bool.and_eq_false_iff, Bool.or_eq_false_iff, Bool.not_eq_true, Bool.not_eq_false, Bool.false_eq_true, Bool.true_eq_false, false_implies, implies_true, b2i_ne, b2i_eq, zB_b2i, not_true_eq_false, not_false_eq_true, List.drop_zero, List.drop_succ_cons, zIn_iff, zI8_iff, laq hL, h1, s14 (d + 1) h, s18 d, s16, g, e1, g13, gG, s24 d h (Nat.le_of_lt hp), t1, t2, s21 (d + 1) hL hK hK2, e2]
          rw [if_pos t2] at hR
          exact hR
        rw [if_neg t2] at hR
        simp only [Bool.not_eq_true] at t2
        by_cases t3 : isT tp n p ((q - p : Nat) : Int) 111 102 0 = true
        · simp only [↓zwq, zpq, zgq, zhq, eq_sto, eq_kill, eq_zSto, eq_mset, eq_zGd, zsq, Int.reduceToNat, List.length_cons, List.length_nil, Nat.reduceAdd, Nat.reduceLT, Nat.reduceEqDiff, Int.reduceLT, Int.reduceLE, Int.reduceEq, Int.reduceNe, Int.reduceNeg, Int.reduceAdd, Int.reduceSub, Int.reduceMul, if_true, if_false, ite_true, ite_false, reduceIte, true_and, and_true, true_implies, forall_const, decide_eq_true_eq, decide_eq_false_iff_not, Bool.not_eq_true', Bool.not_eq_false', Bool.and_eq_true, Bool.or_eq_true, Bool.and_eq_false_iff, Bool.or_eq_false_iff, Bool.not_eq_true, Bool.not_eq_false, Bool.false_eq_true, Bool.true_eq_false, false_implies, implies_true, b2i_ne, b2i_eq, zB_b2i, not_true_eq_false, not_false_eq_true, List.drop_zero, List.drop_succ_cons, zIn_iff, zI8_iff, laq hL, h1, s14 (d + 1) h, s18 d, s16, g, e1, g13, gG, s24 d h (Nat.le_of_lt hp), t1, t2, t3, s21 (d + 1) hL hK hK2, e2]
          rw [if_pos t3] at hR
          exact hR
        rw [if_neg t3] at hR
        simp only [Bool.not_eq_true] at t3
        by_cases t4 : q - p = 4
        · have t4' : (((q - p : Nat) : Int) = 4) = True := eq_true (by rw [t4]; rfl)
          by_cases t5 : isT tp n p 3 99 97 115 = true
          · by_cases t6 : chr tp n (p + 3) = 101
            · rw [if_pos ⟨t4, t5, t6⟩] at hR
              simp only [↓zwq, zpq, zgq, zhq, eq_sto, eq_kill, eq_zSto, eq_mset, eq_zGd, zsq, Int.reduceToNat, List.length_cons, List.length_nil, Nat.reduceAdd, Nat.reduceLT, Nat.reduceEqDiff, Int.reduceLT, Int.reduceLE, Int.reduceEq, Int.reduceNe, Int.reduceNeg, Int.reduceAdd, Int.reduceSub, Int.reduceMul, if_true, if_false, ite_true, ite_false, reduceIte, true_and, and_true, true_implies, forall_const, decide_eq_true_eq, decide_eq_false_iff_not, Bool.not_eq_true', Bool.not_eq_false', Bool.and_eq_true, Bool.or_eq_true, Bool.and_eq_false_iff, Bool.or_eq_false_iff, Bool.not_eq_true, Bool.not_eq_false, Bool.false_eq_true, Bool.true_eq_false, false_implies, implies_true, b2i_ne, b2i_eq, zB_b2i, not_true_eq_false, not_false_eq_true, List.drop_zero, List.drop_succ_cons, zIn_iff, zI8_iff, laq hL, h1, s14 (d + 1) h, s18 d, s16, g, e1, g13, gG, s24 d h (Nat.le_of_lt hp), t1, t2, t3, t4', t5, t6, s21 (d + 1) hL hK hK2, e2, e3]
              exact hR
            · rw [if_neg (fun z => t6 z.2.2)] at hR
              simp only [↓zwq, zpq, zgq, zhq, eq_sto, eq_kill, eq_zSto, eq_mset, eq_zGd, zsq, Int.reduceToNat, List.length_cons, List.length_nil, Nat.reduceAdd, Nat.reduceLT, Nat.reduceEqDiff, Int.reduceLT, Int.reduceLE, Int.reduceEq, Int.reduceNe, Int.reduceNeg, Int.reduceAdd, Int.reduceSub, Int.reduceMul, if_true, if_false, ite_true, ite_false, reduceIte, true_and, and_true, true_implies, forall_const, decide_eq_true_eq, decide_eq_false_iff_not, Bool.not_eq_true', Bool.not_eq_false', Bool.and_eq_true, Bool.or_eq_true, Bool.and_eq_false_iff, Bool.or_eq_false_iff, Bool.not_eq_true, Bool.not_eq_false, Bool.false_eq_true, Bool.true_eq_false, false_implies, implies_true, b2i_ne, b2i_eq, zB_b2i, not_true_eq_false, not_false_eq_true, List.drop_zero, List.drop_succ_cons, zIn_iff, zI8_iff, laq hL, h1, s14 (d + 1) h, s18 d, s16, g, e1, g13, gG, s24 d h (Nat.le_of_lt hp), t1, t2, t3, t4', t5, t6, s21 (d + 1) hL hK hK2, e2, e3]
              exact hR
          · rw [if_neg (fun z => t5 z.2.1)] at hR
            simp only [Bool.not_eq_true] at t5
            simp only [↓zwq, zpq, zgq, zhq, eq_sto, eq_kill, eq_zSto, eq_mset, eq_zGd, zsq, Int.reduceToNat, List.length_cons, List.length_nil, Nat.reduceAdd, Nat.reduceLT, Nat.reduceEqDiff, Int.reduceLT, Int.reduceLE, Int.reduceEq, Int.reduceNe, Int.reduceNeg, Int.reduceAdd, Int.reduceSub, Int.reduceMul, if_true, if_false, ite_true, ite_false, reduceIte, true_and, and_true, true_implies, forall_const, decide_eq_true_eq, decide_eq_false_iff_not, Bool.not_eq_true', Bool.not_eq_false', Bool.and_eq_true, Bool.or_eq_true, Bool.and_eq_false_iff, Bool.or_eq_false_iff, Bool.not_eq_true, Bool.not_eq_false, Bool.false_eq_true, Bool.true_eq_false, false_implies, implies_true, b2i_ne, b2i_eq, zB_b2i, not_true_eq_false, not_false_eq_true, List.drop_zero, List.drop_succ_cons, zIn_iff, zI8_iff, laq hL, h1, s14 (d + 1) h, s18 d, s16, g, e1, g13, gG, s24 d h (Nat.le_of_lt hp), t1, t2, t3, t4', t5, s21 (d + 1) hL hK hK2, e2, e3]
            exact hR
        · have t4' : (((q - p : Nat) : Int) = 4) = False := eq_false (fun z => t4 (Int.ofNat.inj z))
          rw [if_neg (fun z => t4 z.1)] at hR
          simp only [↓zwq, zpq, zgq, zhq, eq_sto, eq_kill, eq_zSto, eq_mset, eq_zGd, zsq, Int.reduceToNat, List.length_cons, List.length_nil, Nat.reduceAdd, Nat.reduceLT, Nat.reduceEqDiff, Int.reduceLT, Int.reduceLE, Int.reduceEq, Int.reduceNe, Int.reduceNeg, Int.reduceAdd, Int.reduceSub, Int.reduceMul, if_true, if_false, ite_true, ite_false, reduceIte, true_and, and_true, true_implies, forall_const, decide_eq_true_eq, decide_eq_false_iff_not, Bool.not_eq_true', Bool.not_eq_false', Bool.and_eq_true, Bool.or_eq_true, Bool.and_eq_false_iff, Bool.or_eq_false_iff, Bool.not_eq_true, Bool.not_eq_false, Bool.false_eq_true, Bool.true_eq_false, false_implies, implies_true, b2i_ne, b2i_eq, zB_b2i, not_true_eq_false, not_false_eq_true, List.drop_zero, List.drop_succ_cons, zIn_iff, zI8_iff, laq hL, h1, s14 (d + 1) h, s18 d, s16, g, e1, g13, gG, s24 d h (Nat.le_of_lt hp), t1, t2, t3, t4', s21 (d + 1) hL hK hK2, e2, e3]
          exact hR
theorem s25 (d : Nat) {tp : Nat → Int} {n p K : Nat} {σ : Mem} (h : XT tp n σ) (hp : p < n) (hc1 : isS (chr tp n p) = false) (hc2 : isG (chr tp n p) = false) (hc : isD (chr tp n p) = true) (hK : σ 8 2 = (K : Int)) (hK2 : K < 2002) (R T : zK)
    (hR : R ((p + (tok tp n p).2 : Nat) : Int) (addT σ K (tok tp n p).1 p (tok tp n p).2)) : zCallD (d + 2) 25 [8, (p : Int)] σ R T := by
  have ⟨hL, h1, h2, h3⟩ := h
  have ht : tok tp n p = (if dEnd tp n p - p ≤ 9 ∧ (chr tp n p ≠ 48 ∨ dEnd tp n p - p = 1) then 4 else 1, dEnd tp n p - p) := by
    unfold tok
    rw [if_neg (by omega), if_neg (by rw [hc1, hc2]; decide), if_pos hc]
  simp only [c_25, b_25, ↓zwq, zpq, zgq, zhq, eq_sto, eq_kill, eq_zSto, eq_mset, eq_zGd, zsq, Int.reduceToNat, List.length_cons, List.length_nil, Nat.reduceAdd, Nat.reduceLT, Nat.reduceEqDiff, Int.reduceLT, Int.reduceLE, Int.reduceEq, Int.reduceNe, Int.reduceNeg, Int.reduceAdd, Int.reduceSub, Int.reduceMul, if_true, if_false, ite_true, ite_false, reduceIte, true_and, and_true, true_implies, forall_const, decide_eq_true_eq, decide_eq_false_iff_not, Bool.not_eq_true', Bool.not_eq_false', Bool.and_eq_true, Bool.or_eq_true, Bool.and_eq_false_iff, Bool.or_eq_false_iff, Bool.not_eq_true, Bool.not_eq_false, Bool.false_eq_true, Bool.true_eq_false, false_implies, implies_true, b2i_ne, b2i_eq, zB_b2i, not_true_eq_false, not_false_eq_true, List.drop_zero, List.drop_succ_cons, zIn_iff, zI8_iff, laq hL, h1]
  have hw := dEnd_le tp n p
  have hw2 := hw.2 (Nat.le_of_lt hp)
  refine lpW (fun m e s => ∃ q : Nat, m = n - q ∧ q ≤ n ∧ dEnd tp n q = dEnd tp n p ∧ s = σ ∧ e = [(3, 8), (1, (p : Int)), (1, (q : Int)), (0, 0)]) ?_ (n - p) _ _ ⟨p, rfl, Nat.le_of_lt hp, rfl, rfl, rfl⟩
  rintro m e s ⟨q, rfl, hq, hs, rfl, rfl⟩
  by_cases g : isD (chr tp n q) = true
  · have e1 : w32 ((q : Int) + 1) = ((q + 1 : Nat) : Int) := w32s (by omega)
    have hn : q < n := chr_lt (by intro e; rw [e] at g; exact absurd g (by decide))
    simp only [↓zwq, zpq, zgq, zhq, eq_sto, eq_kill, eq_zSto, eq_mset, eq_zGd, zsq, Int.reduceToNat, List.length_cons, List.length_nil, Nat.reduceAdd, Nat.reduceLT, Nat.reduceEqDiff, Int.reduceLT, Int.reduceLE, Int.reduceEq, Int.reduceNe, Int.reduceNeg, Int.reduceAdd, Int.reduceSub, Int.reduceMul, if_true, if_false, ite_true, ite_false, reduceIte, true_and, and_true, true_implies, forall_const, decide_eq_true_eq, decide_eq_false_iff_not, Bool.not_eq_true', Bool.not_eq_false', Bool.and_eq_true, Bool.or_eq_true, Bool.and_eq_false_iff, Bool.or_eq_false_iff, Bool.not_eq_true, Bool.not_eq_false, Bool.false_eq_true, Bool.true_eq_false, false_implies, implies_true, b2i_ne, b2i_eq, zB_b2i, not_true_eq_false, not_false_eq_true, List.drop_zero, List.drop_succ_cons, zIn_iff, zI8_iff, laq hL, h1, s14 d h, s17 d, g, e1]
    refine ⟨n - (q + 1), Nat.sub_lt_sub_left hn (Nat.lt_succ_self _), q + 1, rfl, hn, ?_, rfl⟩
    rw [← hs, dEnd.eq_1 tp n q, dif_pos g]
  · have hq2 : dEnd tp n p = q := by rw [← hs, dEnd, dif_neg g]
    rw [hq2] at ht hw hw2
    rw [ht] at hR
    have z9 : ((q - p : Nat) : Int) ≤ 9 ↔ q - p ≤ 9 := by omega
    have z1 : ((q - p : Nat) : Int) = 1 ↔ q - p = 1 := by omega
    have e1 : w32 ((q : Int) - (p : Int)) = ((q - p : Nat) : Int) := w32sub hw.1 (by omega)
    have e2 : w32 ((p : Int) + ((q - p : Nat) : Int)) = ((p + (q - p) : Nat) : Int) := w32add (by omega)
    simp only [Bool.not_eq_true] at g
    by_cases y1 : q - p ≤ 9
    · by_cases y2 : chr tp n p = 48
      · by_cases y3 : q - p = 1
        · rw [if_pos ⟨y1, Or.inr y3⟩] at hR
          have y3' : (((q - p : Nat) : Int) = 1) = True := eq_true (z1.mpr y3)
          simp only [↓zwq, zpq, zgq, zhq, eq_sto, eq_kill, eq_zSto, eq_mset, eq_zGd, zsq, Int.reduceToNat, List.length_cons, List.length_nil, Nat.reduceAdd, Nat.reduceLT, Nat.reduceEqDiff, Int.reduceLT, Int.reduceLE, Int.reduceEq, Int.reduceNe, Int.reduceNeg, Int.reduceAdd, Int.reduceSub, Int.reduceMul, if_true, if_false, ite_true, ite_false, reduceIte, true_and, and_true, true_implies, forall_const, decide_eq_true_eq, decide_eq_false_iff_not, Bool.not_eq_true', Bool.not_eq_false', Bool.and_eq_true, Bool.or_eq_true, Bool.and_eq_false_iff, Bool.or_eq_false_iff, Bool.not_eq_true, Bool.not_eq_false, Bool.false_eq_true, Bool.true_eq_false, false_implies, implies_true, b2i_ne, b2i_eq, zB_b2i, not_true_eq_false, not_false_eq_true, List.drop_zero, List.drop_succ_cons, zIn_iff, zI8_iff, laq hL, h1, s14 d h, s17 d, g, e1, z9, y3', y1, y2, s21 d hL hK hK2, e2]
          exact hR
        · rw [if_neg (fun z => z.2.elim (fun z => z y2) y3)] at hR
          simp only [↓zwq, zpq, zgq, zhq, eq_sto, eq_kill, eq_zSto, eq_mset, eq_zGd, zsq, Int.reduceToNat, List.length_cons, List.length_nil, Nat.reduceAdd, Nat.reduceLT, Nat.reduceEqDiff, Int.reduceLT, Int.reduceLE, Int.reduceEq, Int.reduceNe, Int.reduceNeg, Int.reduceAdd, Int.reduceSub, Int.reduceMul, if_true, if_false, ite_true, ite_false, reduceIte, true_and, and_true, true_implies, forall_const, decide_eq_true_eq, decide_eq_false_iff_not, Bool.not_eq_true', Bool.not_eq_false', Bool.and_eq_true, Bool.or_eq_true, Bool.and_eq_false_iff, Bool.or_eq_false_iff, Bool.not_eq_true, Bool.not_eq_false, Bool.false_eq_true, Bool.true_eq_false, false_implies, implies_true, b2i_ne, b2i_eq, zB_b2i, not_true_eq_false, not_false_eq_true, List.drop_zero, List.drop_succ_cons, zIn_iff, zI8_iff, laq hL, h1, s14 d h, s17 d, g, e1, z9, z1, y1, y2, y3, s21 d hL hK hK2, e2]
          exact hR
      · rw [if_pos ⟨y1, Or.inl y2⟩] at hR
        simp only [↓zwq, zpq, zgq, zhq, eq_sto, eq_kill, eq_zSto, eq_mset, eq_zGd, zsq, Int.reduceToNat, List.length_cons, List.length_nil, Nat.reduceAdd, Nat.reduceLT, Nat.reduceEqDiff, Int.reduceLT, Int.reduceLE, Int.reduceEq, Int.reduceNe, Int.reduceNeg, Int.reduceAdd, Int.reduceSub, Int.reduceMul, if_true, if_false, ite_true, ite_false, reduceIte, true_and, and_true, true_implies, forall_const, decide_eq_true_eq, decide_eq_false_iff_not, Bool.not_eq_true', Bool.not_eq_false', Bool.and_eq_true, Bool.or_eq_true, Bool.and_eq_false_iff, Bool.or_eq_false_iff, Bool.not_eq_true, Bool.not_eq_false, Bool.false_eq_true, Bool.true_eq_false, false_implies, implies_true, b2i_ne, b2i_eq, zB_b2i, not_true_eq_false, not_false_eq_true, List.drop_zero, List.drop_succ_cons, zIn_iff, zI8_iff, laq hL, h1, s14 d h, s17 d, g, e1, z9, z1, y1, y2, s21 d hL hK hK2, e2]
        exact hR
    · rw [if_neg (fun z => y1 z.1)] at hR
      simp only [↓zwq, zpq, zgq, zhq, eq_sto, eq_kill, eq_zSto, eq_mset, eq_zGd, zsq, Int.reduceToNat, List.length_cons, List.length_nil, Nat.reduceAdd, Nat.reduceLT, Nat.reduceEqDiff, Int.reduceLT, Int.reduceLE, Int.reduceEq, Int.reduceNe, Int.reduceNeg, Int.reduceAdd, Int.reduceSub, Int.reduceMul, if_true, if_false, ite_true, ite_false, reduceIte, true_and, and_true, true_implies, forall_const, decide_eq_true_eq, decide_eq_false_iff_not, Bool.not_eq_true', Bool.not_eq_false', Bool.and_eq_true, Bool.or_eq_true, Bool.and_eq_false_iff, Bool.or_eq_false_iff, Bool.not_eq_true, Bool.not_eq_false, Bool.false_eq_true, Bool.true_eq_false, false_implies, implies_true, b2i_ne, b2i_eq, zB_b2i, not_true_eq_false, not_false_eq_true, List.drop_zero, List.drop_succ_cons, zIn_iff, zI8_iff, laq hL, h1, s14 d h, s17 d, g, e1, z9, z1, y1, s21 d hL hK hK2, e2]
      exact hR
theorem s22 (d : Nat) {tp : Nat → Int} {n p K : Nat} {σ : Mem} (h : XT tp n σ) (hp : p < n) (hK : σ 8 2 = (K : Int)) (hK2 : K < 2002) (R T : zK)
    (hR : R ((p + (tok tp n p).2 : Nat) : Int) (addT σ K (tok tp n p).1 p (tok tp n p).2)) : zCallD (d + 4) 22 [8, (p : Int)] σ R T := by
  have ⟨hL, h1, h2, h3⟩ := h
  have e1 : w32 ((p : Int) + 1) = ((p + 1 : Nat) : Int) := w32s (by omega)
  have e2 : w32 ((p : Int) + 2) = ((p + 2 : Nat) : Int) := w32p2 (by omega)
  cases g1 : isS (chr tp n p) with
  | true =>
    simp only [c_22, b_22, ↓zwq, zpq, zgq, zhq, eq_sto, eq_kill, eq_zSto, eq_mset, eq_zGd, zsq, Int.reduceToNat, List.length_cons, List.length_nil, Nat.reduceAdd, Nat.reduceLT, Nat.reduceEqDiff, Int.reduceLT, Int.reduceLE, Int.reduceEq, Int.reduceNe, Int.reduceNeg, Int.reduceAdd, Int.reduceSub, Int.reduceMul, if_true, if_false, ite_true, ite_false, reduceIte, true_and, and_true, true_implies, forall_const, decide_eq_true_eq, decide_eq_false_iff_not, Bool.not_eq_true', Bool.not_eq_false', Bool.and_eq_true, Bool.or_eq_true, Bool.and_eq_false_iff, Bool.or_eq_false_iff, Bool.not_eq_true, Bool.not_eq_false, Bool.false_eq_true, Bool.true_eq_false, false_implies, implies_true, b2i_ne, b2i_eq, zB_b2i, not_true_eq_false, not_false_eq_true, List.drop_zero, List.drop_succ_cons, zIn_iff, zI8_iff, laq hL, h1, s14 (d + 2) h, s15, g1]
    exact s23 d h hp (Or.inl g1) hK hK2 R T hR
  | false =>
    cases g2 : isG (chr tp n p) with
    | true =>
      simp only [c_22, b_22, ↓zwq, zpq, zgq, zhq, eq_sto, eq_kill, eq_zSto, eq_mset, eq_zGd, zsq, Int.reduceToNat, List.length_cons, List.length_nil, Nat.reduceAdd, Nat.reduceLT, Nat.reduceEqDiff, Int.reduceLT, Int.reduceLE, Int.reduceEq, Int.reduceNe, Int.reduceNeg, Int.reduceAdd, Int.reduceSub, Int.reduceMul, if_true, if_false, ite_true, ite_false, reduceIte, true_and, and_true, true_implies, forall_const, decide_eq_true_eq, decide_eq_false_iff_not, Bool.not_eq_true', Bool.not_eq_false', Bool.and_eq_true, Bool.or_eq_true, Bool.and_eq_false_iff, Bool.or_eq_false_iff, Bool.not_eq_true, Bool.not_eq_false, Bool.false_eq_true, Bool.true_eq_false, false_implies, implies_true, b2i_ne, b2i_eq, zB_b2i, not_true_eq_false, not_false_eq_true, List.drop_zero, List.drop_succ_cons, zIn_iff, zI8_iff, laq hL, h1, s14 (d + 2) h, s15, s16, g1, g2]
      exact s23 d h hp (Or.inr g2) hK hK2 R T hR
    | false =>
      cases g3 : isD (chr tp n p) with
      | true =>
        simp only [c_22, b_22, ↓zwq, zpq, zgq, zhq, eq_sto, eq_kill, eq_zSto, eq_mset, eq_zGd, zsq, Int.reduceToNat, List.length_cons, List.length_nil, Nat.reduceAdd, Nat.reduceLT, Nat.reduceEqDiff, Int.reduceLT, Int.reduceLE, Int.reduceEq, Int.reduceNe, Int.reduceNeg, Int.reduceAdd, Int.reduceSub, Int.reduceMul, if_true, if_false, ite_true, ite_false, reduceIte, true_and, and_true, true_implies, forall_const, decide_eq_true_eq, decide_eq_false_iff_not, Bool.not_eq_true', Bool.not_eq_false', Bool.and_eq_true, Bool.or_eq_true, Bool.and_eq_false_iff, Bool.or_eq_false_iff, Bool.not_eq_true, Bool.not_eq_false, Bool.false_eq_true, Bool.true_eq_false, false_implies, implies_true, b2i_ne, b2i_eq, zB_b2i, not_true_eq_false, not_false_eq_true, List.drop_zero, List.drop_succ_cons, zIn_iff, zI8_iff, laq hL, h1, s14 (d + 2) h, s15, s16, s17, g1, g2, g3]
        exact s25 (d + 1) h hp g1 g2 g3 hK hK2 R T hR
      | false =>
        have ht : tok tp n p = sgn (chr tp n p) (chr tp n (p + 1)) := by
          unfold tok
          rw [if_neg (by omega), if_neg (by rw [g1, g2]; decide), if_neg (by rw [g3]; decide)]
        rw [ht] at hR
        simp only [c_22, b_22, ↓zwq, zpq, zgq, zhq, eq_sto, eq_kill, eq_zSto, eq_mset, eq_zGd, zsq, Int.reduceToNat, List.length_cons, List.length_nil, Nat.reduceAdd, Nat.reduceLT, Nat.reduceEqDiff, Int.reduceLT, Int.reduceLE, Int.reduceEq, Int.reduceNe, Int.reduceNeg, Int.reduceAdd, Int.reduceSub, Int.reduceMul, if_true, if_false, ite_true, ite_false, reduceIte, true_and, and_true, true_implies, forall_const, decide_eq_true_eq, decide_eq_false_iff_not, Bool.not_eq_true', Bool.not_eq_false', Bool.and_eq_true, Bool.or_eq_true, Bool.and_eq_false_iff, Bool.or_eq_false_iff, Bool.not_eq_true, Bool.not_eq_false, Bool.false_eq_true, Bool.true_eq_false, false_implies, implies_true, b2i_ne, b2i_eq, zB_b2i, not_true_eq_false, not_false_eq_true, List.drop_zero, List.drop_succ_cons, zIn_iff, zI8_iff, laq hL, h1, s14 (d + 2) h, s15, s16, s17, g1, g2, g3, s21 (d + 2) hL hK hK2, e1, e2]
        unfold sgn at hR
        clear ht g1 g2 g3 h3 h
        generalize chr tp n p = c at hR ⊢
        generalize chr tp n (p + 1) = c2 at hR ⊢
        repeat' (first | apply And.intro | intro z)
        all_goals (simp only [*, ne_eq, if_true, if_false, Int.reduceEq] at hR; exact hR)
