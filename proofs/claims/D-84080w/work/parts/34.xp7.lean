/-! LazyForms' reader: products, sums, comparisons -/
section
variable {tp : Nat → Int} {n e tr pr i o N : Nat} {ml : Nat → List (List Int)} {mk : Nat → Int} {σ : Mem} {E : Nat → Rs}
theorem xLoop57 (d D0 F : Nat) (hF : e ≤ F) (hM : HMk tp n e tr pr ml mk) (hE : HEx tp n e tr pr ml mk D0 o E) (hd : D0 ≤ d + 8) (hml : ∀ k, k < e → kdT tp n k ≠ 3 → ml (k + 1) = ml k) (i0 N0 : Nat) (σ0 : Mem) (R Rr T : zK) (K : zV) (hK : ∀ (m : Nat) τ, Rr (m : Int) τ → K [(3, 7), (1, (m : Int)), (0, 0), (0, 0)] τ) :
    ∀ (f j N m : Nat) (a : Fm) (σ : Mem), e - j ≤ f → XP tp n e tr pr ml j o N σ → XFr tr N0 σ0 σ → i0 < j → N0 ≤ N → m < N → N + 2 * i0 ≤ N0 + 2 * j → N ≤ 2 * j → rX (kdT tp n) (plT tp n) (vlT tp n) mk (xr σ tr) N0 N a (m : Int) →
    xRes tp n e tr pr ml mk i0 o N0 σ0 0 Rr T (pProdL (kdT tp n) F E f a j) →
    zLpW (cOr (c0 .ne (eCall 36 [(eP (pL 3 0)), (eP (pI 19))])) (c0 .ne (eCall 36 [(eP (pL 3 0)), (eP (pI 20))])))
  (sBlk 2 (sSeq (sSt 1 2 (eP (p1 (oGf 2 4 1) (pL 3 0))))
  (sSeq (sPfo (eP (pL 3 0)) 2 4 1 oAdd (eP (pI 1)))
  (sSeq (sSt 1 3 (eCall 58 [(eP (pL 3 0))]))
  (sSt 1 1 (eCall 30 [(eP (p1 (oGf 2 2 3) (pL 3 0))), (eP (pI 10)), (eP (p2 oIald (p1 (oGf 4 4 3) (p1 (oGf 2 0 3) (pL 3 0))) (pL 1 2))), (eP (pL 1 1)), (eP (pL 1 3)), (eP (p2 oIald (p1 (oGf 4 3 3) (p1 (oGf 2 0 3) (pL 3 0))) (pL 1 2)))])))))) sSkip (zCallD (d + 10)) [(3, 7), (1, (m : Int)), (0, 0), (0, 0)] σ K R T := by
  intro f
  induction f with
  | zero =>
    intro j N m a σ hf h hx hi hl hm hb hb2 hr hR
    have hje := h.2.2.2.2.1
    have hk1 : ¬ kdT tp n j = 19 := by
      have := h.1.2.2.2.2.2.2.2.1
      rw [show j = e by omega]; omega
    have hk2 : ¬ kdT tp n j = 20 := by
      have := h.1.2.2.2.2.2.2.2.1
      rw [show j = e by omega]; omega
    refine zLpW_in (zCallD_mono _) ?_
    simp only [↓zwq, zpq, zgq, zhq, eq_sto, eq_kill, eq_zSto, eq_mset, eq_zGd, zsq, Int.reduceToNat, List.length_cons, List.length_nil, Nat.reduceAdd, Nat.reduceLT, Nat.reduceEqDiff, Int.reduceLT, Int.reduceLE, Int.reduceEq, Int.reduceNe, Int.reduceNeg, Int.reduceAdd, Int.reduceSub, Int.reduceMul, if_true, if_false, ite_true, ite_false, reduceIte, true_and, and_true, true_implies, forall_const, decide_eq_true_eq, decide_eq_false_iff_not, Bool.not_eq_true', Bool.not_eq_false', Bool.and_eq_true, Bool.or_eq_true, Bool.and_eq_false_iff, Bool.or_eq_false_iff, Bool.not_eq_true, Bool.not_eq_false, Bool.false_eq_true, Bool.true_eq_false, false_implies, implies_true, b2i_ne, b2i_eq, zB_b2i, not_true_eq_false, not_false_eq_true, List.drop_zero, List.drop_succ_cons, zIn_iff, zI8_iff, or_false, false_or, or_true, true_or, and_false, false_and, Decidable.not_not, s36 (d + 9) h, nlit, hk1, hk2]
    exact hK m σ (hR m N σ h hx hi hl hm (by omega) hr)
  | succ f ih =>
    intro j N m a σ hf h hx hi hl hm hb hb2 hr hR
    have hL := h.lay
    have ht := h.1.2.2.2.2.2.1
    have hje := h.2.2.2.2.1
    have he := h.1.2.2.1
    have hin : (0 : Int) ≤ (j : Int) ∧ (j : Int) < ((2002 : Nat) : Int) := by omega
    have jb : j < 2147483647 := by omega
    refine zLpW_in (zCallD_mono _) ?_
    unfold pProdL at hR
    by_cases g : kdT tp n j = 19 ∨ kdT tp n j = 20
    · rw [if_pos g] at hR
      have hj : j < e := h.lt (by omega)
      have hX := h.next hj (hml j hj (by omega))
      have go : zCallD (d + 10) 58 [7] (mset σ 7 4 ((j + 1 : Nat) : Int)) (fun v s => ∀ K' : zK, (∀ m1 N1 τ, v = ((m1 : Nat) : Int) → s = τ → XP tp n e tr pr ml (j + 1) o N1 τ → K' v s) → True) T ∨ True := Or.inr trivial
      clear go
      have stp : ∀ Q : zK, xRes tp n e tr pr ml mk (j + 1) o N (mset σ 7 4 ((j + 1 : Nat) : Int)) 0 Q T (pUse (kdT tp n) F E (j + 1)) → zCallD (d + 10) 58 [7] (mset σ 7 4 ((j + 1 : Nat) : Int)) Q T := fun Q hq => s58 (d) D0 F hF hM hE (by omega) hml hX (by omega) Q T hq
      have body : xRes tp n e tr pr ml mk (j + 1) o N (mset σ 7 4 ((j + 1 : Nat) : Int)) 0 (fun v s => zCallD (d + 10) 30 [(tr : Int), 10, plT tp n j, (m : Int), v, (kdT tp n j : Int)] s (fun v' s' => zLpW (cOr (c0 .ne (eCall 36 [(eP (pL 3 0)), (eP (pI 19))])) (c0 .ne (eCall 36 [(eP (pL 3 0)), (eP (pI 20))])))
  (sBlk 2 (sSeq (sSt 1 2 (eP (p1 (oGf 2 4 1) (pL 3 0))))
  (sSeq (sPfo (eP (pL 3 0)) 2 4 1 oAdd (eP (pI 1)))
  (sSeq (sSt 1 3 (eCall 58 [(eP (pL 3 0))]))
  (sSt 1 1 (eCall 30 [(eP (p1 (oGf 2 2 3) (pL 3 0))), (eP (pI 10)), (eP (p2 oIald (p1 (oGf 4 4 3) (p1 (oGf 2 0 3) (pL 3 0))) (pL 1 2))), (eP (pL 1 1)), (eP (pL 1 3)), (eP (p2 oIald (p1 (oGf 4 3 3) (p1 (oGf 2 0 3) (pL 3 0))) (pL 1 2)))])))))) sSkip (zCallD (d + 10)) [(3, 7), (1, v'), (0, 0), (0, 0)] s' K R T) T) T (pUse (kdT tp n) F E (j + 1)) := by
        unfold pBd at hR
        cases hq : pUse (kdT tp n) F E (j + 1) with
        | error x => rw [hq] at hR; exact fun τ hτ => hR τ (XErr.pre hx (hτ.pre (XFr.at7 (k := 0) ht (Or.inl rfl))))
        | ok x =>
          obtain ⟨b, j2⟩ := x
          rw [hq] at hR
          intro m1 N1 τ x1 x2 x3 xl x4 x5 x6
          have hj2 := x1.2.2.2.2.1
          have hN1 : N1 < 4096 := by omega
          refine Eq.mpr (s30 (d + 9) x1.lay ht x1.2.2.2.1 hN1 _ _ _ _ _ _ _) ?_
          have frA : XFr tr N σ τ := (XFr.at7 ht (Or.inl rfl)).tr x2 (Nat.le_refl _)
          have fr : XFr tr N0 σ0 (addN tr N1 10 (plT tp n j) (m : Int) (m1 : Int) (kdT tp n j : Int) τ) := (hx.tr frA hl).tr XFr.addN (by omega)
          refine ih j2 (N1 + 1) N1 _ _ (by omega) (x1.addN _ _ _ _ _) fr (by omega) (by omega) (Nat.lt_succ_self _) (by omega) (by omega) ?_ hR
          refine ⟨N1, rfl, by omega, Nat.lt_succ_self _, ?_⟩
          simp only [xr_add]
          simp
          refine ⟨rX_up _ _ _ _ _ _ (Nat.le_refl _) (by omega) (fun f k a b => ?_) hr, rX_up _ _ _ _ _ _ (by omega) (by omega) (fun f k a b => ?_) x6⟩
          · rw [xr_add, if_neg (by omega)]; exact frA.2 f k b
          · rw [xr_add, if_neg (by omega)]
      have body2 : ∀ Q : zK, (∀ v s, Lay s → s 7 2 = (tr : Int) → s 11 j = plT tp n j → s 10 j = (kdT tp n j : Int) → zCallD (d + 10) 30 [(tr : Int), 10, plT tp n j, (m : Int), v, (kdT tp n j : Int)] s (fun v' s' => zLpW (cOr (c0 .ne (eCall 36 [(eP (pL 3 0)), (eP (pI 19))])) (c0 .ne (eCall 36 [(eP (pL 3 0)), (eP (pI 20))])))
  (sBlk 2 (sSeq (sSt 1 2 (eP (p1 (oGf 2 4 1) (pL 3 0))))
  (sSeq (sPfo (eP (pL 3 0)) 2 4 1 oAdd (eP (pI 1)))
  (sSeq (sSt 1 3 (eCall 58 [(eP (pL 3 0))]))
  (sSt 1 1 (eCall 30 [(eP (p1 (oGf 2 2 3) (pL 3 0))), (eP (pI 10)), (eP (p2 oIald (p1 (oGf 4 4 3) (p1 (oGf 2 0 3) (pL 3 0))) (pL 1 2))), (eP (pL 1 1)), (eP (pL 1 3)), (eP (p2 oIald (p1 (oGf 4 3 3) (p1 (oGf 2 0 3) (pL 3 0))) (pL 1 2)))])))))) sSkip (zCallD (d + 10)) [(3, 7), (1, v'), (0, 0), (0, 0)] s' K R T) T → Q v s) → xRes tp n e tr pr ml mk (j + 1) o N (mset σ 7 4 ((j + 1 : Nat) : Int)) 0 Q T (pUse (kdT tp n) F E (j + 1)) := by
        intro Q hQ
        revert body
        cases pUse (kdT tp n) F E (j + 1) with
        | error x => exact id
        | ok x =>
          intro body m1 N1 τ x1 x2 x3 xl x4 x5 x6
          exact hQ _ _ x1.lay x1.1.2.2.2.1 (x1.1.2.1 j (Nat.le_of_lt hj)).2.1 (x1.1.2.1 j (Nat.le_of_lt hj)).1 (body m1 N1 τ x1 x2 x3 xl x4 x5 x6)
      have fin : ∀ v s, Lay s → s 7 2 = (tr : Int) → s 11 j = plT tp n j → s 10 j = (kdT tp n j : Int) → zCallD (d + 10) 30 [(tr : Int), 10, plT tp n j, (m : Int), v, (kdT tp n j : Int)] s (fun v' s' => zLpW (cOr (c0 .ne (eCall 36 [(eP (pL 3 0)), (eP (pI 19))])) (c0 .ne (eCall 36 [(eP (pL 3 0)), (eP (pI 20))])))
  (sBlk 2 (sSeq (sSt 1 2 (eP (p1 (oGf 2 4 1) (pL 3 0))))
  (sSeq (sPfo (eP (pL 3 0)) 2 4 1 oAdd (eP (pI 1)))
  (sSeq (sSt 1 3 (eCall 58 [(eP (pL 3 0))]))
  (sSt 1 1 (eCall 30 [(eP (p1 (oGf 2 2 3) (pL 3 0))), (eP (pI 10)), (eP (p2 oIald (p1 (oGf 4 4 3) (p1 (oGf 2 0 3) (pL 3 0))) (pL 1 2))), (eP (pL 1 1)), (eP (pL 1 3)), (eP (p2 oIald (p1 (oGf 4 3 3) (p1 (oGf 2 0 3) (pL 3 0))) (pL 1 2)))])))))) sSkip (zCallD (d + 10)) [(3, 7), (1, v'), (0, 0), (0, 0)] s' K R T) T → True := fun _ _ _ _ _ _ _ => trivial
      clear fin
      by_cases g1 : kdT tp n j = 19
      · simp only [↓zwq, zpq, zgq, zhq, eq_sto, eq_kill, eq_zSto, eq_mset, eq_zGd, zsq, Int.reduceToNat, List.length_cons, List.length_nil, Nat.reduceAdd, Nat.reduceLT, Nat.reduceEqDiff, Int.reduceLT, Int.reduceLE, Int.reduceEq, Int.reduceNe, Int.reduceNeg, Int.reduceAdd, Int.reduceSub, Int.reduceMul, if_true, if_false, ite_true, ite_false, reduceIte, true_and, and_true, true_implies, forall_const, decide_eq_true_eq, decide_eq_false_iff_not, Bool.not_eq_true', Bool.not_eq_false', Bool.and_eq_true, Bool.or_eq_true, Bool.and_eq_false_iff, Bool.or_eq_false_iff, Bool.not_eq_true, Bool.not_eq_false, Bool.false_eq_true, Bool.true_eq_false, false_implies, implies_true, b2i_ne, b2i_eq, zB_b2i, not_true_eq_false, not_false_eq_true, List.drop_zero, List.drop_succ_cons, zIn_iff, zI8_iff, or_false, false_or, or_true, true_or, and_false, false_and, Decidable.not_not, s36 (d + 9) h, nlit, g1, laq hL, h.2.1, w32s jb]
        refine stp _ (body2 _ (fun v s a1 a2 a3 a4 a5 => ?_))
        simp only [↓zwq, zpq, zgq, zhq, eq_sto, eq_kill, eq_zSto, eq_mset, eq_zGd, zsq, Int.reduceToNat, List.length_cons, List.length_nil, Nat.reduceAdd, Nat.reduceLT, Nat.reduceEqDiff, Int.reduceLT, Int.reduceLE, Int.reduceEq, Int.reduceNe, Int.reduceNeg, Int.reduceAdd, Int.reduceSub, Int.reduceMul, if_true, if_false, ite_true, ite_false, reduceIte, true_and, and_true, true_implies, forall_const, decide_eq_true_eq, decide_eq_false_iff_not, Bool.not_eq_true', Bool.not_eq_false', Bool.and_eq_true, Bool.or_eq_true, Bool.and_eq_false_iff, Bool.or_eq_false_iff, Bool.not_eq_true, Bool.not_eq_false, Bool.false_eq_true, Bool.true_eq_false, false_implies, implies_true, b2i_ne, b2i_eq, zB_b2i, not_true_eq_false, not_false_eq_true, List.drop_zero, List.drop_succ_cons, zIn_iff, zI8_iff, or_false, false_or, or_true, true_or, and_false, false_and, Decidable.not_not, laq a1, a2, a3, a4, hin, Int.toNat_natCast, trs ht]
        exact a5
      · have g2 : kdT tp n j = 20 := g.resolve_left g1
        simp only [↓zwq, zpq, zgq, zhq, eq_sto, eq_kill, eq_zSto, eq_mset, eq_zGd, zsq, Int.reduceToNat, List.length_cons, List.length_nil, Nat.reduceAdd, Nat.reduceLT, Nat.reduceEqDiff, Int.reduceLT, Int.reduceLE, Int.reduceEq, Int.reduceNe, Int.reduceNeg, Int.reduceAdd, Int.reduceSub, Int.reduceMul, if_true, if_false, ite_true, ite_false, reduceIte, true_and, and_true, true_implies, forall_const, decide_eq_true_eq, decide_eq_false_iff_not, Bool.not_eq_true', Bool.not_eq_false', Bool.and_eq_true, Bool.or_eq_true, Bool.and_eq_false_iff, Bool.or_eq_false_iff, Bool.not_eq_true, Bool.not_eq_false, Bool.false_eq_true, Bool.true_eq_false, false_implies, implies_true, b2i_ne, b2i_eq, zB_b2i, not_true_eq_false, not_false_eq_true, List.drop_zero, List.drop_succ_cons, zIn_iff, zI8_iff, or_false, false_or, or_true, true_or, and_false, false_and, Decidable.not_not, s36 (d + 9) h, nlit, g1, g2, laq hL, h.2.1, w32s jb]
        refine stp _ (body2 _ (fun v s a1 a2 a3 a4 a5 => ?_))
        simp only [↓zwq, zpq, zgq, zhq, eq_sto, eq_kill, eq_zSto, eq_mset, eq_zGd, zsq, Int.reduceToNat, List.length_cons, List.length_nil, Nat.reduceAdd, Nat.reduceLT, Nat.reduceEqDiff, Int.reduceLT, Int.reduceLE, Int.reduceEq, Int.reduceNe, Int.reduceNeg, Int.reduceAdd, Int.reduceSub, Int.reduceMul, if_true, if_false, ite_true, ite_false, reduceIte, true_and, and_true, true_implies, forall_const, decide_eq_true_eq, decide_eq_false_iff_not, Bool.not_eq_true', Bool.not_eq_false', Bool.and_eq_true, Bool.or_eq_true, Bool.and_eq_false_iff, Bool.or_eq_false_iff, Bool.not_eq_true, Bool.not_eq_false, Bool.false_eq_true, Bool.true_eq_false, false_implies, implies_true, b2i_ne, b2i_eq, zB_b2i, not_true_eq_false, not_false_eq_true, List.drop_zero, List.drop_succ_cons, zIn_iff, zI8_iff, or_false, false_or, or_true, true_or, and_false, false_and, Decidable.not_not, laq a1, a2, a3, a4, hin, Int.toNat_natCast, trs ht]
        exact a5
    · rw [if_neg g] at hR
      have g1 : ¬ kdT tp n j = 19 := fun z => g (Or.inl z)
      have g2 : ¬ kdT tp n j = 20 := fun z => g (Or.inr z)
      simp only [↓zwq, zpq, zgq, zhq, eq_sto, eq_kill, eq_zSto, eq_mset, eq_zGd, zsq, Int.reduceToNat, List.length_cons, List.length_nil, Nat.reduceAdd, Nat.reduceLT, Nat.reduceEqDiff, Int.reduceLT, Int.reduceLE, Int.reduceEq, Int.reduceNe, Int.reduceNeg, Int.reduceAdd, Int.reduceSub, Int.reduceMul, if_true, if_false, ite_true, ite_false, reduceIte, true_and, and_true, true_implies, forall_const, decide_eq_true_eq, decide_eq_false_iff_not, Bool.not_eq_true', Bool.not_eq_false', Bool.and_eq_true, Bool.or_eq_true, Bool.and_eq_false_iff, Bool.or_eq_false_iff, Bool.not_eq_true, Bool.not_eq_false, Bool.false_eq_true, Bool.true_eq_false, false_implies, implies_true, b2i_ne, b2i_eq, zB_b2i, not_true_eq_false, not_false_eq_true, List.drop_zero, List.drop_succ_cons, zIn_iff, zI8_iff, or_false, false_or, or_true, true_or, and_false, false_and, Decidable.not_not, s36 (d + 9) h, nlit, g1, g2]
      exact hK m σ (hR m N σ h hx hi hl hm (by omega) hr)
theorem s57 (d D0 F : Nat) (hF : e ≤ F) (hM : HMk tp n e tr pr ml mk) (hE : HEx tp n e tr pr ml mk D0 o E) (hd : D0 ≤ d + 8) (hml : ∀ k, k < e → kdT tp n k ≠ 3 → ml (k + 1) = ml k) (h : XP tp n e tr pr ml i o N σ) (hN : N ≤ 2 * i) (R T : zK)
    (hR : xRes tp n e tr pr ml mk i o N σ 0 R T (pProd (kdT tp n) F E i)) : zCallD (d + 11) 57 [7] σ R T := by
  have hL := h.lay
  simp only [c_57, b_57, ↓zwq, zpq, zgq, zhq, eq_sto, eq_kill, eq_zSto, eq_mset, eq_zGd, zsq, Int.reduceToNat, List.length_cons, List.length_nil, Nat.reduceAdd, Nat.reduceLT, Nat.reduceEqDiff, Int.reduceLT, Int.reduceLE, Int.reduceEq, Int.reduceNe, Int.reduceNeg, Int.reduceAdd, Int.reduceSub, Int.reduceMul, if_true, if_false, ite_true, ite_false, reduceIte, true_and, and_true, true_implies, forall_const, decide_eq_true_eq, decide_eq_false_iff_not, Bool.not_eq_true', Bool.not_eq_false', Bool.and_eq_true, Bool.or_eq_true, Bool.and_eq_false_iff, Bool.or_eq_false_iff, Bool.not_eq_true, Bool.not_eq_false, Bool.false_eq_true, Bool.true_eq_false, false_implies, implies_true, b2i_ne, b2i_eq, zB_b2i, not_true_eq_false, not_false_eq_true, List.drop_zero, List.drop_succ_cons, zIn_iff, zI8_iff, or_false, false_or, or_true, true_or, and_false, false_and, Decidable.not_not, laq hL]
  refine s58 (d) D0 F hF hM hE (by omega) hml h hN _ _ ?_
  unfold pProd pBd at hR
  cases hq : pUse (kdT tp n) F E i with
  | error x => rw [hq] at hR; exact hR
  | ok x =>
    obtain ⟨t, j⟩ := x
    rw [hq] at hR
    intro m N1 τ x1 x2 x3 xl x4 x5 x6
    refine xLoop57 d D0 F hF hM hE hd hml i N σ R R T _ (fun m τ hm => ?_) F j N1 m t τ (by omega) x1 x2 x3 xl x4 (by omega) (by omega) x6 hR
    simp only [↓zwq, zpq, zgq, zhq, eq_sto, eq_kill, eq_zSto, eq_mset, eq_zGd, zsq, Int.reduceToNat, List.length_cons, List.length_nil, Nat.reduceAdd, Nat.reduceLT, Nat.reduceEqDiff, Int.reduceLT, Int.reduceLE, Int.reduceEq, Int.reduceNe, Int.reduceNeg, Int.reduceAdd, Int.reduceSub, Int.reduceMul, if_true, if_false, ite_true, ite_false, reduceIte, true_and, and_true, true_implies, forall_const, decide_eq_true_eq, decide_eq_false_iff_not, Bool.not_eq_true', Bool.not_eq_false', Bool.and_eq_true, Bool.or_eq_true, Bool.and_eq_false_iff, Bool.or_eq_false_iff, Bool.not_eq_true, Bool.not_eq_false, Bool.false_eq_true, Bool.true_eq_false, false_implies, implies_true, b2i_ne, b2i_eq, zB_b2i, not_true_eq_false, not_false_eq_true, List.drop_zero, List.drop_succ_cons, zIn_iff, zI8_iff, or_false, false_or, or_true, true_or, and_false, false_and, Decidable.not_not]
    exact hm
theorem xLoop56 (d D0 F : Nat) (hF : e ≤ F) (hM : HMk tp n e tr pr ml mk) (hE : HEx tp n e tr pr ml mk D0 o E) (hd : D0 ≤ d + 8) (hml : ∀ k, k < e → kdT tp n k ≠ 3 → ml (k + 1) = ml k) (i0 N0 : Nat) (σ0 : Mem) (R Rr T : zK) (K : zV) (hK : ∀ (m : Nat) τ, Rr (m : Int) τ → K [(3, 7), (1, (m : Int)), (0, 0), (0, 0)] τ) :
    ∀ (f j N m : Nat) (a : Fm) (σ : Mem), e - j ≤ f → XP tp n e tr pr ml j o N σ → XFr tr N0 σ0 σ → i0 < j → N0 ≤ N → m < N → N + 2 * i0 ≤ N0 + 2 * j → N ≤ 2 * j → rX (kdT tp n) (plT tp n) (vlT tp n) mk (xr σ tr) N0 N a (m : Int) →
    xRes tp n e tr pr ml mk i0 o N0 σ0 0 Rr T (pSumL (kdT tp n) F E f a j) →
    zLpW (cOr (c0 .ne (eCall 36 [(eP (pL 3 0)), (eP (pI 17))])) (c0 .ne (eCall 36 [(eP (pL 3 0)), (eP (pI 18))])))
  (sBlk 2 (sSeq (sSt 1 2 (eP (p1 (oGf 2 4 1) (pL 3 0))))
  (sSeq (sPfo (eP (pL 3 0)) 2 4 1 oAdd (eP (pI 1)))
  (sSeq (sSt 1 3 (eCall 57 [(eP (pL 3 0))]))
  (sSt 1 1 (eCall 30 [(eP (p1 (oGf 2 2 3) (pL 3 0))), (eP (pI 10)), (eP (p2 oIald (p1 (oGf 4 4 3) (p1 (oGf 2 0 3) (pL 3 0))) (pL 1 2))), (eP (pL 1 1)), (eP (pL 1 3)), (eP (p2 oIald (p1 (oGf 4 3 3) (p1 (oGf 2 0 3) (pL 3 0))) (pL 1 2)))])))))) sSkip (zCallD (d + 11)) [(3, 7), (1, (m : Int)), (0, 0), (0, 0)] σ K R T := by
  intro f
  induction f with
  | zero =>
    intro j N m a σ hf h hx hi hl hm hb hb2 hr hR
    have hje := h.2.2.2.2.1
    have hk1 : ¬ kdT tp n j = 17 := by
      have := h.1.2.2.2.2.2.2.2.1
      rw [show j = e by omega]; omega
    have hk2 : ¬ kdT tp n j = 18 := by
      have := h.1.2.2.2.2.2.2.2.1
      rw [show j = e by omega]; omega
    refine zLpW_in (zCallD_mono _) ?_
    simp only [↓zwq, zpq, zgq, zhq, eq_sto, eq_kill, eq_zSto, eq_mset, eq_zGd, zsq, Int.reduceToNat, List.length_cons, List.length_nil, Nat.reduceAdd, Nat.reduceLT, Nat.reduceEqDiff, Int.reduceLT, Int.reduceLE, Int.reduceEq, Int.reduceNe, Int.reduceNeg, Int.reduceAdd, Int.reduceSub, Int.reduceMul, if_true, if_false, ite_true, ite_false, reduceIte, true_and, and_true, true_implies, forall_const, decide_eq_true_eq, decide_eq_false_iff_not, Bool.not_eq_true', Bool.not_eq_false', Bool.and_eq_true, Bool.or_eq_true, Bool.and_eq_false_iff, Bool.or_eq_false_iff, Bool.not_eq_true, Bool.not_eq_false, Bool.false_eq_true, Bool.true_eq_false, false_implies, implies_true, b2i_ne, b2i_eq, zB_b2i, not_true_eq_false, not_false_eq_true, List.drop_zero, List.drop_succ_cons, zIn_iff, zI8_iff, or_false, false_or, or_true, true_or, and_false, false_and, Decidable.not_not, s36 (d + 10) h, nlit, hk1, hk2]
    exact hK m σ (hR m N σ h hx hi hl hm (by omega) hr)
  | succ f ih =>
    intro j N m a σ hf h hx hi hl hm hb hb2 hr hR
    have hL := h.lay
    have ht := h.1.2.2.2.2.2.1
    have hje := h.2.2.2.2.1
    have he := h.1.2.2.1
    have hin : (0 : Int) ≤ (j : Int) ∧ (j : Int) < ((2002 : Nat) : Int) := by omega
    have jb : j < 2147483647 := by omega
    refine zLpW_in (zCallD_mono _) ?_
    unfold pSumL at hR
    by_cases g : kdT tp n j = 17 ∨ kdT tp n j = 18
    · rw [if_pos g] at hR
      have hj : j < e := h.lt (by omega)
      have hX := h.next hj (hml j hj (by omega))
      have go : zCallD (d + 11) 57 [7] (mset σ 7 4 ((j + 1 : Nat) : Int)) (fun v s => ∀ K' : zK, (∀ m1 N1 τ, v = ((m1 : Nat) : Int) → s = τ → XP tp n e tr pr ml (j + 1) o N1 τ → K' v s) → True) T ∨ True := Or.inr trivial
      clear go
      have stp : ∀ Q : zK, xRes tp n e tr pr ml mk (j + 1) o N (mset σ 7 4 ((j + 1 : Nat) : Int)) 0 Q T (pProd (kdT tp n) F E (j + 1)) → zCallD (d + 11) 57 [7] (mset σ 7 4 ((j + 1 : Nat) : Int)) Q T := fun Q hq => s57 (d) D0 F hF hM hE (by omega) hml hX (by omega) Q T hq
      have body : xRes tp n e tr pr ml mk (j + 1) o N (mset σ 7 4 ((j + 1 : Nat) : Int)) 0 (fun v s => zCallD (d + 11) 30 [(tr : Int), 10, plT tp n j, (m : Int), v, (kdT tp n j : Int)] s (fun v' s' => zLpW (cOr (c0 .ne (eCall 36 [(eP (pL 3 0)), (eP (pI 17))])) (c0 .ne (eCall 36 [(eP (pL 3 0)), (eP (pI 18))])))
  (sBlk 2 (sSeq (sSt 1 2 (eP (p1 (oGf 2 4 1) (pL 3 0))))
  (sSeq (sPfo (eP (pL 3 0)) 2 4 1 oAdd (eP (pI 1)))
  (sSeq (sSt 1 3 (eCall 57 [(eP (pL 3 0))]))
  (sSt 1 1 (eCall 30 [(eP (p1 (oGf 2 2 3) (pL 3 0))), (eP (pI 10)), (eP (p2 oIald (p1 (oGf 4 4 3) (p1 (oGf 2 0 3) (pL 3 0))) (pL 1 2))), (eP (pL 1 1)), (eP (pL 1 3)), (eP (p2 oIald (p1 (oGf 4 3 3) (p1 (oGf 2 0 3) (pL 3 0))) (pL 1 2)))])))))) sSkip (zCallD (d + 11)) [(3, 7), (1, v'), (0, 0), (0, 0)] s' K R T) T) T (pProd (kdT tp n) F E (j + 1)) := by
        unfold pBd at hR
        cases hq : pProd (kdT tp n) F E (j + 1) with
        | error x => rw [hq] at hR; exact fun τ hτ => hR τ (XErr.pre hx (hτ.pre (XFr.at7 (k := 0) ht (Or.inl rfl))))
        | ok x =>
          obtain ⟨b, j2⟩ := x
          rw [hq] at hR
          intro m1 N1 τ x1 x2 x3 xl x4 x5 x6
          have hj2 := x1.2.2.2.2.1
          have hN1 : N1 < 4096 := by omega
          refine Eq.mpr (s30 (d + 10) x1.lay ht x1.2.2.2.1 hN1 _ _ _ _ _ _ _) ?_
          have frA : XFr tr N σ τ := (XFr.at7 ht (Or.inl rfl)).tr x2 (Nat.le_refl _)
          have fr : XFr tr N0 σ0 (addN tr N1 10 (plT tp n j) (m : Int) (m1 : Int) (kdT tp n j : Int) τ) := (hx.tr frA hl).tr XFr.addN (by omega)
          refine ih j2 (N1 + 1) N1 _ _ (by omega) (x1.addN _ _ _ _ _) fr (by omega) (by omega) (Nat.lt_succ_self _) (by omega) (by omega) ?_ hR
          refine ⟨N1, rfl, by omega, Nat.lt_succ_self _, ?_⟩
          simp only [xr_add]
          simp
          refine ⟨rX_up _ _ _ _ _ _ (Nat.le_refl _) (by omega) (fun f k a b => ?_) hr, rX_up _ _ _ _ _ _ (by omega) (by omega) (fun f k a b => ?_) x6⟩
          · rw [xr_add, if_neg (by omega)]; exact frA.2 f k b
          · rw [xr_add, if_neg (by omega)]
      have body2 : ∀ Q : zK, (∀ v s, Lay s → s 7 2 = (tr : Int) → s 11 j = plT tp n j → s 10 j = (kdT tp n j : Int) → zCallD (d + 11) 30 [(tr : Int), 10, plT tp n j, (m : Int), v, (kdT tp n j : Int)] s (fun v' s' => zLpW (cOr (c0 .ne (eCall 36 [(eP (pL 3 0)), (eP (pI 17))])) (c0 .ne (eCall 36 [(eP (pL 3 0)), (eP (pI 18))])))
  (sBlk 2 (sSeq (sSt 1 2 (eP (p1 (oGf 2 4 1) (pL 3 0))))
  (sSeq (sPfo (eP (pL 3 0)) 2 4 1 oAdd (eP (pI 1)))
  (sSeq (sSt 1 3 (eCall 57 [(eP (pL 3 0))]))
  (sSt 1 1 (eCall 30 [(eP (p1 (oGf 2 2 3) (pL 3 0))), (eP (pI 10)), (eP (p2 oIald (p1 (oGf 4 4 3) (p1 (oGf 2 0 3) (pL 3 0))) (pL 1 2))), (eP (pL 1 1)), (eP (pL 1 3)), (eP (p2 oIald (p1 (oGf 4 3 3) (p1 (oGf 2 0 3) (pL 3 0))) (pL 1 2)))])))))) sSkip (zCallD (d + 11)) [(3, 7), (1, v'), (0, 0), (0, 0)] s' K R T) T → Q v s) → xRes tp n e tr pr ml mk (j + 1) o N (mset σ 7 4 ((j + 1 : Nat) : Int)) 0 Q T (pProd (kdT tp n) F E (j + 1)) := by
        intro Q hQ
        revert body
        cases pProd (kdT tp n) F E (j + 1) with
        | error x => exact id
        | ok x =>
          intro body m1 N1 τ x1 x2 x3 xl x4 x5 x6
          exact hQ _ _ x1.lay x1.1.2.2.2.1 (x1.1.2.1 j (Nat.le_of_lt hj)).2.1 (x1.1.2.1 j (Nat.le_of_lt hj)).1 (body m1 N1 τ x1 x2 x3 xl x4 x5 x6)
      have fin : ∀ v s, Lay s → s 7 2 = (tr : Int) → s 11 j = plT tp n j → s 10 j = (kdT tp n j : Int) → zCallD (d + 11) 30 [(tr : Int), 10, plT tp n j, (m : Int), v, (kdT tp n j : Int)] s (fun v' s' => zLpW (cOr (c0 .ne (eCall 36 [(eP (pL 3 0)), (eP (pI 17))])) (c0 .ne (eCall 36 [(eP (pL 3 0)), (eP (pI 18))])))
  (sBlk 2 (sSeq (sSt 1 2 (eP (p1 (oGf 2 4 1) (pL 3 0))))
  (sSeq (sPfo (eP (pL 3 0)) 2 4 1 oAdd (eP (pI 1)))
  (sSeq (sSt 1 3 (eCall 57 [(eP (pL 3 0))]))
  (sSt 1 1 (eCall 30 [(eP (p1 (oGf 2 2 3) (pL 3 0))), (eP (pI 10)), (eP (p2 oIald (p1 (oGf 4 4 3) (p1 (oGf 2 0 3) (pL 3 0))) (pL 1 2))), (eP (pL 1 1)), (eP (pL 1 3)), (eP (p2 oIald (p1 (oGf 4 3 3) (p1 (oGf 2 0 3) (pL 3 0))) (pL 1 2)))])))))) sSkip (zCallD (d + 11)) [(3, 7), (1, v'), (0, 0), (0, 0)] s' K R T) T → True := fun _ _ _ _ _ _ _ => trivial
      clear fin
      by_cases g1 : kdT tp n j = 17
      · simp only [↓zwq, zpq, zgq, zhq, eq_sto, eq_kill, eq_zSto, eq_mset, eq_zGd, zsq, Int.reduceToNat, List.length_cons, List.length_nil, Nat.reduceAdd, Nat.reduceLT, Nat.reduceEqDiff, Int.reduceLT, Int.reduceLE, Int.reduceEq, Int.reduceNe, Int.reduceNeg, Int.reduceAdd, Int.reduceSub, Int.reduceMul, if_true, if_false, ite_true, ite_false, reduceIte, true_and, and_true, true_implies, forall_const, decide_eq_true_eq, decide_eq_false_iff_not, Bool.not_eq_true', Bool.not_eq_false', Bool.and_eq_true, Bool.or_eq_true, Bool.and_eq_false_iff, Bool.or_eq_false_iff, Bool.not_eq_true, Bool.not_eq_false, Bool.false_eq_true, Bool.true_eq_false, false_implies, implies_true, b2i_ne, b2i_eq, zB_b2i, not_true_eq_false, not_false_eq_true, List.drop_zero, List.drop_succ_cons, zIn_iff, zI8_iff, or_false, false_or, or_true, true_or, and_false, false_and, Decidable.not_not, s36 (d + 10) h, nlit, g1, laq hL, h.2.1, w32s jb]
        refine stp _ (body2 _ (fun v s a1 a2 a3 a4 a5 => ?_))
        simp only [↓zwq, zpq, zgq, zhq, eq_sto, eq_kill, eq_zSto, eq_mset, eq_zGd, zsq, Int.reduceToNat, List.length_cons, List.length_nil, Nat.reduceAdd, Nat.reduceLT, Nat.reduceEqDiff, Int.reduceLT, Int.reduceLE, Int.reduceEq, Int.reduceNe, Int.reduceNeg, Int.reduceAdd, Int.reduceSub, Int.reduceMul, if_true, if_false, ite_true, ite_false, reduceIte, true_and, and_true, true_implies, forall_const, decide_eq_true_eq, decide_eq_false_iff_not, Bool.not_eq_true', Bool.not_eq_false', Bool.and_eq_true, Bool.or_eq_true, Bool.and_eq_false_iff, Bool.or_eq_false_iff, Bool.not_eq_true, Bool.not_eq_false, Bool.false_eq_true, Bool.true_eq_false, false_implies, implies_true, b2i_ne, b2i_eq, zB_b2i, not_true_eq_false, not_false_eq_true, List.drop_zero, List.drop_succ_cons, zIn_iff, zI8_iff, or_false, false_or, or_true, true_or, and_false, false_and, Decidable.not_not, laq a1, a2, a3, a4, hin, Int.toNat_natCast, trs ht]
        exact a5
      · have g2 : kdT tp n j = 18 := g.resolve_left g1
        simp only [↓zwq, zpq, zgq, zhq, eq_sto, eq_kill, eq_zSto, eq_mset, eq_zGd, zsq, Int.reduceToNat, List.length_cons, List.length_nil, Nat.reduceAdd, Nat.reduceLT, Nat.reduceEqDiff, Int.reduceLT, Int.reduceLE, Int.reduceEq, Int.reduceNe, Int.reduceNeg, Int.reduceAdd, Int.reduceSub, Int.reduceMul, if_true, if_false, ite_true, ite_false, reduceIte, true_and, and_true, true_implies, forall_const, decide_eq_true_eq, decide_eq_false_iff_not, Bool.not_eq_true', Bool.not_eq_false', Bool.and_eq_true, Bool.or_eq_true, Bool.and_eq_false_iff, Bool.or_eq_false_iff, Bool.not_eq_true, Bool.not_eq_false, Bool.false_eq_true, Bool.true_eq_false, false_implies, implies_true, b2i_ne, b2i_eq, zB_b2i, not_true_eq_false, not_false_eq_true, List.drop_zero, List.drop_succ_cons, zIn_iff, zI8_iff, or_false, false_or, or_true, true_or, and_false, false_and, Decidable.not_not, s36 (d + 10) h, nlit, g1, g2, laq hL, h.2.1, w32s jb]
        refine stp _ (body2 _ (fun v s a1 a2 a3 a4 a5 => ?_))
        simp only [↓zwq, zpq, zgq, zhq, eq_sto, eq_kill, eq_zSto, eq_mset, eq_zGd, zsq, Int.reduceToNat, List.length_cons, List.length_nil, Nat.reduceAdd, Nat.reduceLT, Nat.reduceEqDiff, Int.reduceLT, Int.reduceLE, Int.reduceEq, Int.reduceNe, Int.reduceNeg, Int.reduceAdd, Int.reduceSub, Int.reduceMul, if_true, if_false, ite_true, ite_false, reduceIte, true_and, and_true, true_implies, forall_const, decide_eq_true_eq, decide_eq_false_iff_not, Bool.not_eq_true', Bool.not_eq_false', Bool.and_eq_true, Bool.or_eq_true, Bool.and_eq_false_iff, Bool.or_eq_false_iff, Bool.not_eq_true, Bool.not_eq_false, Bool.false_eq_true, Bool.true_eq_false, false_implies, implies_true, b2i_ne, b2i_eq, zB_b2i, not_true_eq_false, not_false_eq_true, List.drop_zero, List.drop_succ_cons, zIn_iff, zI8_iff, or_false, false_or, or_true, true_or, and_false, false_and, Decidable.not_not, laq a1, a2, a3, a4, hin, Int.toNat_natCast, trs ht]
        exact a5
    · rw [if_neg g] at hR
      have g1 : ¬ kdT tp n j = 17 := fun z => g (Or.inl z)
      have g2 : ¬ kdT tp n j = 18 := fun z => g (Or.inr z)
      simp only [↓zwq, zpq, zgq, zhq, eq_sto, eq_kill, eq_zSto, eq_mset, eq_zGd, zsq, Int.reduceToNat, List.length_cons, List.length_nil, Nat.reduceAdd, Nat.reduceLT, Nat.reduceEqDiff, Int.reduceLT, Int.reduceLE, Int.reduceEq, Int.reduceNe, Int.reduceNeg, Int.reduceAdd, Int.reduceSub, Int.reduceMul, if_true, if_false, ite_true, ite_false, reduceIte, true_and, and_true, true_implies, forall_const, decide_eq_true_eq, decide_eq_false_iff_not, Bool.not_eq_true', Bool.not_eq_false', Bool.and_eq_true, Bool.or_eq_true, Bool.and_eq_false_iff, Bool.or_eq_false_iff, Bool.not_eq_true, Bool.not_eq_false, Bool.false_eq_true, Bool.true_eq_false, false_implies, implies_true, b2i_ne, b2i_eq, zB_b2i, not_true_eq_false, not_false_eq_true, List.drop_zero, List.drop_succ_cons, zIn_iff, zI8_iff, or_false, false_or, or_true, true_or, and_false, false_and, Decidable.not_not, s36 (d + 10) h, nlit, g1, g2]
      exact hK m σ (hR m N σ h hx hi hl hm (by omega) hr)
theorem s56 (d D0 F : Nat) (hF : e ≤ F) (hM : HMk tp n e tr pr ml mk) (hE : HEx tp n e tr pr ml mk D0 o E) (hd : D0 ≤ d + 8) (hml : ∀ k, k < e → kdT tp n k ≠ 3 → ml (k + 1) = ml k) (h : XP tp n e tr pr ml i o N σ) (hN : N ≤ 2 * i) (R T : zK)
    (hR : xRes tp n e tr pr ml mk i o N σ 0 R T (pSum (kdT tp n) F E i)) : zCallD (d + 12) 56 [7] σ R T := by
  have hL := h.lay
  simp only [c_56, b_56, ↓zwq, zpq, zgq, zhq, eq_sto, eq_kill, eq_zSto, eq_mset, eq_zGd, zsq, Int.reduceToNat, List.length_cons, List.length_nil, Nat.reduceAdd, Nat.reduceLT, Nat.reduceEqDiff, Int.reduceLT, Int.reduceLE, Int.reduceEq, Int.reduceNe, Int.reduceNeg, Int.reduceAdd, Int.reduceSub, Int.reduceMul, if_true, if_false, ite_true, ite_false, reduceIte, true_and, and_true, true_implies, forall_const, decide_eq_true_eq, decide_eq_false_iff_not, Bool.not_eq_true', Bool.not_eq_false', Bool.and_eq_true, Bool.or_eq_true, Bool.and_eq_false_iff, Bool.or_eq_false_iff, Bool.not_eq_true, Bool.not_eq_false, Bool.false_eq_true, Bool.true_eq_false, false_implies, implies_true, b2i_ne, b2i_eq, zB_b2i, not_true_eq_false, not_false_eq_true, List.drop_zero, List.drop_succ_cons, zIn_iff, zI8_iff, or_false, false_or, or_true, true_or, and_false, false_and, Decidable.not_not, laq hL]
  refine s57 (d) D0 F hF hM hE (by omega) hml h hN _ _ ?_
  unfold pSum pBd at hR
  cases hq : pProd (kdT tp n) F E i with
  | error x => rw [hq] at hR; exact hR
  | ok x =>
    obtain ⟨t, j⟩ := x
    rw [hq] at hR
    intro m N1 τ x1 x2 x3 xl x4 x5 x6
    refine xLoop56 d D0 F hF hM hE hd hml i N σ R R T _ (fun m τ hm => ?_) F j N1 m t τ (by omega) x1 x2 x3 xl x4 (by omega) (by omega) x6 hR
    simp only [↓zwq, zpq, zgq, zhq, eq_sto, eq_kill, eq_zSto, eq_mset, eq_zGd, zsq, Int.reduceToNat, List.length_cons, List.length_nil, Nat.reduceAdd, Nat.reduceLT, Nat.reduceEqDiff, Int.reduceLT, Int.reduceLE, Int.reduceEq, Int.reduceNe, Int.reduceNeg, Int.reduceAdd, Int.reduceSub, Int.reduceMul, if_true, if_false, ite_true, ite_false, reduceIte, true_and, and_true, true_implies, forall_const, decide_eq_true_eq, decide_eq_false_iff_not, Bool.not_eq_true', Bool.not_eq_false', Bool.and_eq_true, Bool.or_eq_true, Bool.and_eq_false_iff, Bool.or_eq_false_iff, Bool.not_eq_true, Bool.not_eq_false, Bool.false_eq_true, Bool.true_eq_false, false_implies, implies_true, b2i_ne, b2i_eq, zB_b2i, not_true_eq_false, not_false_eq_true, List.drop_zero, List.drop_succ_cons, zIn_iff, zI8_iff, or_false, false_or, or_true, true_or, and_false, false_and, Decidable.not_not]
    exact hm
end
