/-! LazyFormsModel's reader: products, sums, comparisons -/
section
variable {tp : Nat → Int} {n e A i o N : Nat} {σ : Mem} {E : Nat → Rs}
theorem mLoop164 (d D0 F : Nat) (hF : e ≤ F) (hE : HMx tp n e A D0 o E) (hd : D0 ≤ d + 8) (i0 N0 : Nat) (σ0 : Mem) (R Rr T : zK) (K : zV) (hK : ∀ (m : Nat) τ, Rr (m : Int) τ → K [(3, 90), (1, (m : Int)), (0, 0), (0, 0)] τ) :
    ∀ (f j N m : Nat) (a : Fm) (σ : Mem), e - j ≤ f → MP tp n e A j o N σ → YFr A N0 σ0 σ → i0 < j → N0 ≤ N → m < 4000 * A + N → N + 2 * i0 ≤ N0 + 2 * j → N ≤ 2 * j → rM (kdT tp n) (tvT tp n A) (ppT tp n A) (yr σ) (4000 * A + N0) (4000 * A + N) a (m : Int) →
    mRes tp n e A i0 o N0 σ0 0 Rr T (pProdL (kdT tp n) F E f a j) →
    zLpW (cOr (c0 .ne (eCall 146 [(eP (pL 3 0)), (eP (pI 42))])) (c0 .ne (eCall 146 [(eP (pL 3 0)), (eP (pI 47))])))
  (sBlk 2 (sSeq (sSt 1 2 (eP (p1 (oGf 6 6 1) (pL 3 0))))
  (sSeq (sPfo (eP (pL 3 0)) 6 6 1 oAdd (eP (pI 1)))
  (sSeq (sSt 1 3 (eCall 165 [(eP (pL 3 0))]))
  (sSt 1 1 (eCall 144 [(eP (pL 3 0)), (eP (pI 6)), (eP (pL 1 1)), (eP (pL 1 3)), (eP (p2 oIald (p1 (oGf 6 8 3) (pL 3 0)) (pL 1 2))), (eP (pL 1 2))])))))) sSkip (zCallD (d + 10)) [(3, 90), (1, (m : Int)), (0, 0), (0, 0)] σ K R T := by
  intro f
  induction f with
  | zero =>
    intro j N m a σ hf h hx hi hl hm hb hb2 hr hR
    have hje := h.2.2.2.2
    have hk1 : ¬ kdT tp n j = 19 := by
      have := h.1.2.2.2.1
      rw [show j = e by omega]; omega
    have hk2 : ¬ kdT tp n j = 20 := by
      have := h.1.2.2.2.1
      rw [show j = e by omega]; omega
    refine zLpW_in (zCallD_mono _) ?_
    simp only [↓zwq, zpq, zgq, zhq, eq_sto, eq_kill, eq_zSto, eq_mset, eq_zGd, zsq, Int.reduceToNat, List.length_cons, List.length_nil, Nat.reduceAdd, Nat.reduceLT, Nat.reduceEqDiff, Int.reduceLT, Int.reduceLE, Int.reduceEq, Int.reduceNe, Int.reduceNeg, Int.reduceAdd, Int.reduceSub, Int.reduceMul, if_true, if_false, ite_true, ite_false, reduceIte, true_and, and_true, true_implies, forall_const, decide_eq_true_eq, decide_eq_false_iff_not, Bool.not_eq_true', Bool.not_eq_false', Bool.and_eq_true, Bool.or_eq_true, Bool.and_eq_false_iff, Bool.or_eq_false_iff, Bool.not_eq_true, Bool.not_eq_false, Bool.false_eq_true, Bool.true_eq_false, false_implies, implies_true, b2i_ne, b2i_eq, zB_b2i, not_true_eq_false, not_false_eq_true, List.drop_zero, List.drop_succ_cons, zIn_iff, zI8_iff, or_false, false_or, or_true, true_or, and_false, false_and, Decidable.not_not, s146 (d + 9) h, sg_f (slit tp n j).2.2.2.2.2.2.2.2.2.2.1 hk1, sg_f (slit tp n j).2.2.2.2.2.2.2.2.2.2.2.1 hk2]
    exact hK m σ (hR m N σ h hx hi hl hm (by omega) hr)
  | succ f ih =>
    intro j N m a σ hf h hx hi hl hm hb hb2 hr hR
    have hL := h.lay
    have hje := h.2.2.2.2
    have he := h.1.2.2.1
    have hin : (0 : Int) ≤ (j : Int) ∧ (j : Int) < ((2010 : Nat) : Int) := by omega
    have jb : j < 2147483647 := by omega
    refine zLpW_in (zCallD_mono _) ?_
    unfold pProdL at hR
    by_cases g : kdT tp n j = 19 ∨ kdT tp n j = 20
    · rw [if_pos g] at hR
      have hj : j < e := h.lt (by omega)
      have hX := h.next hj
      have fx : YFr A N σ (mset σ 90 6 ((j + 1 : Nat) : Int)) := YFr.at90 (Or.inl rfl)
      have h2k : 2 ≤ kdT tp n j := by omega
      have body : mRes tp n e A (j + 1) o N (mset σ 90 6 ((j + 1 : Nat) : Int)) 0 (fun v s => (Lay s ∧ s 95 j = tvT tp n A j) ∧ zCallD (d + 10) 144 [90, 6, (m : Int), v, tvT tp n A j, (j : Int)] s (fun v' s' => zLpW (cOr (c0 .ne (eCall 146 [(eP (pL 3 0)), (eP (pI 42))])) (c0 .ne (eCall 146 [(eP (pL 3 0)), (eP (pI 47))])))
  (sBlk 2 (sSeq (sSt 1 2 (eP (p1 (oGf 6 6 1) (pL 3 0))))
  (sSeq (sPfo (eP (pL 3 0)) 6 6 1 oAdd (eP (pI 1)))
  (sSeq (sSt 1 3 (eCall 165 [(eP (pL 3 0))]))
  (sSt 1 1 (eCall 144 [(eP (pL 3 0)), (eP (pI 6)), (eP (pL 1 1)), (eP (pL 1 3)), (eP (p2 oIald (p1 (oGf 6 8 3) (pL 3 0)) (pL 1 2))), (eP (pL 1 2))])))))) sSkip (zCallD (d + 10)) [(3, 90), (1, v'), (0, 0), (0, 0)] s' K R T) T) T (pUse (kdT tp n) F E (j + 1)) := by
        cases hq : pUse (kdT tp n) F E (j + 1) with
        | error x => rw [hq, pBd_er] at hR; exact fun τ hτ => hR τ (MErr.pre hx (MErr.pre fx hτ))
        | ok x =>
          obtain ⟨b, j2⟩ := x
          rw [hq, pBd_ok] at hR
          intro m1 N1 τ x1 x2 x3 xl x4 x5 x6
          have hj2 := x1.2.2.2.2
          have hN1 : N1 < 4000 := by omega
          refine ⟨⟨x1.lay, (x1.1.2.1 j (Nat.le_of_lt hj)).2.2 h2k⟩, ?_⟩
          refine Eq.mpr (s144 (d + 9) x1 hN1 (Nat.le_of_lt hj) _ _ _ _ _ _) ?_
          have frA : YFr A N σ τ := fx.tr x2 (Nat.le_refl _)
          have fr : YFr A N0 σ0 (addM A N1 6 (m : Int) (m1 : Int) (tvT tp n A j) (ppT tp n A j) τ) := (hx.tr frA hl).tr (YFr.addM hN1) (by omega)
          refine ih j2 (N1 + 1) (4000 * A + N1) _ _ (by omega) (x1.addM _ _ _ _ _) fr (by omega) (by omega) (by omega) (by omega) (by omega) ?_ hR
          refine ⟨4000 * A + N1, rfl, by omega, by omega, ?_⟩
          simp only [yr_add]
          simp [mNk]
          refine ⟨rM_up _ _ _ _ _ _ (Nat.le_refl _) (by omega) (fun f k a b => ?_) hr, rM_up _ _ _ _ _ _ (by omega) (by omega) (fun f k a b => ?_) x6⟩
          · rw [yr_add, if_neg (by omega)]; exact frA.2 f k (Or.inl b)
          · rw [yr_add, if_neg (by omega)]
      have stp : ∀ Q : zK, (∀ v s, ((Lay s ∧ s 95 j = tvT tp n A j) ∧ zCallD (d + 10) 144 [90, 6, (m : Int), v, tvT tp n A j, (j : Int)] s (fun v' s' => zLpW (cOr (c0 .ne (eCall 146 [(eP (pL 3 0)), (eP (pI 42))])) (c0 .ne (eCall 146 [(eP (pL 3 0)), (eP (pI 47))])))
  (sBlk 2 (sSeq (sSt 1 2 (eP (p1 (oGf 6 6 1) (pL 3 0))))
  (sSeq (sPfo (eP (pL 3 0)) 6 6 1 oAdd (eP (pI 1)))
  (sSeq (sSt 1 3 (eCall 165 [(eP (pL 3 0))]))
  (sSt 1 1 (eCall 144 [(eP (pL 3 0)), (eP (pI 6)), (eP (pL 1 1)), (eP (pL 1 3)), (eP (p2 oIald (p1 (oGf 6 8 3) (pL 3 0)) (pL 1 2))), (eP (pL 1 2))])))))) sSkip (zCallD (d + 10)) [(3, 90), (1, v'), (0, 0), (0, 0)] s' K R T) T) → Q v s) → zCallD (d + 10) 165 [90] (mset σ 90 6 ((j + 1 : Nat) : Int)) Q T := by
        intro Q hQ
        exact zCallD_mono _ _ _ _ _ _ _ _ hQ (fun _ _ => id) (m165 d D0 F hF hE (by omega) hX (by omega) _ T body)
      by_cases g1 : kdT tp n j = 19
      · simp only [↓zwq, zpq, zgq, zhq, eq_sto, eq_kill, eq_zSto, eq_mset, eq_zGd, zsq, Int.reduceToNat, List.length_cons, List.length_nil, Nat.reduceAdd, Nat.reduceLT, Nat.reduceEqDiff, Int.reduceLT, Int.reduceLE, Int.reduceEq, Int.reduceNe, Int.reduceNeg, Int.reduceAdd, Int.reduceSub, Int.reduceMul, if_true, if_false, ite_true, ite_false, reduceIte, true_and, and_true, true_implies, forall_const, decide_eq_true_eq, decide_eq_false_iff_not, Bool.not_eq_true', Bool.not_eq_false', Bool.and_eq_true, Bool.or_eq_true, Bool.and_eq_false_iff, Bool.or_eq_false_iff, Bool.not_eq_true, Bool.not_eq_false, Bool.false_eq_true, Bool.true_eq_false, false_implies, implies_true, b2i_ne, b2i_eq, zB_b2i, not_true_eq_false, not_false_eq_true, List.drop_zero, List.drop_succ_cons, zIn_iff, zI8_iff, or_false, false_or, or_true, true_or, and_false, false_and, Decidable.not_not, s146 (d + 9) h, sg_t (slit tp n j).2.2.2.2.2.2.2.2.2.2.1 g1, laq hL, h.2.1, w32s jb]
        refine stp _ ?_
        rintro v s ⟨⟨a1, a2⟩, a3⟩
        simp only [↓zwq, zpq, zgq, zhq, eq_sto, eq_kill, eq_zSto, eq_mset, eq_zGd, zsq, Int.reduceToNat, List.length_cons, List.length_nil, Nat.reduceAdd, Nat.reduceLT, Nat.reduceEqDiff, Int.reduceLT, Int.reduceLE, Int.reduceEq, Int.reduceNe, Int.reduceNeg, Int.reduceAdd, Int.reduceSub, Int.reduceMul, if_true, if_false, ite_true, ite_false, reduceIte, true_and, and_true, true_implies, forall_const, decide_eq_true_eq, decide_eq_false_iff_not, Bool.not_eq_true', Bool.not_eq_false', Bool.and_eq_true, Bool.or_eq_true, Bool.and_eq_false_iff, Bool.or_eq_false_iff, Bool.not_eq_true, Bool.not_eq_false, Bool.false_eq_true, Bool.true_eq_false, false_implies, implies_true, b2i_ne, b2i_eq, zB_b2i, not_true_eq_false, not_false_eq_true, List.drop_zero, List.drop_succ_cons, zIn_iff, zI8_iff, or_false, false_or, or_true, true_or, and_false, false_and, Decidable.not_not, laq a1, a2, hin, Int.toNat_natCast]
        exact a3
      · have g2 : kdT tp n j = 20 := g.resolve_left g1
        simp only [↓zwq, zpq, zgq, zhq, eq_sto, eq_kill, eq_zSto, eq_mset, eq_zGd, zsq, Int.reduceToNat, List.length_cons, List.length_nil, Nat.reduceAdd, Nat.reduceLT, Nat.reduceEqDiff, Int.reduceLT, Int.reduceLE, Int.reduceEq, Int.reduceNe, Int.reduceNeg, Int.reduceAdd, Int.reduceSub, Int.reduceMul, if_true, if_false, ite_true, ite_false, reduceIte, true_and, and_true, true_implies, forall_const, decide_eq_true_eq, decide_eq_false_iff_not, Bool.not_eq_true', Bool.not_eq_false', Bool.and_eq_true, Bool.or_eq_true, Bool.and_eq_false_iff, Bool.or_eq_false_iff, Bool.not_eq_true, Bool.not_eq_false, Bool.false_eq_true, Bool.true_eq_false, false_implies, implies_true, b2i_ne, b2i_eq, zB_b2i, not_true_eq_false, not_false_eq_true, List.drop_zero, List.drop_succ_cons, zIn_iff, zI8_iff, or_false, false_or, or_true, true_or, and_false, false_and, Decidable.not_not, s146 (d + 9) h, sg_f (slit tp n j).2.2.2.2.2.2.2.2.2.2.1 g1, sg_t (slit tp n j).2.2.2.2.2.2.2.2.2.2.2.1 g2, laq hL, h.2.1, w32s jb]
        refine stp _ ?_
        rintro v s ⟨⟨a1, a2⟩, a3⟩
        simp only [↓zwq, zpq, zgq, zhq, eq_sto, eq_kill, eq_zSto, eq_mset, eq_zGd, zsq, Int.reduceToNat, List.length_cons, List.length_nil, Nat.reduceAdd, Nat.reduceLT, Nat.reduceEqDiff, Int.reduceLT, Int.reduceLE, Int.reduceEq, Int.reduceNe, Int.reduceNeg, Int.reduceAdd, Int.reduceSub, Int.reduceMul, if_true, if_false, ite_true, ite_false, reduceIte, true_and, and_true, true_implies, forall_const, decide_eq_true_eq, decide_eq_false_iff_not, Bool.not_eq_true', Bool.not_eq_false', Bool.and_eq_true, Bool.or_eq_true, Bool.and_eq_false_iff, Bool.or_eq_false_iff, Bool.not_eq_true, Bool.not_eq_false, Bool.false_eq_true, Bool.true_eq_false, false_implies, implies_true, b2i_ne, b2i_eq, zB_b2i, not_true_eq_false, not_false_eq_true, List.drop_zero, List.drop_succ_cons, zIn_iff, zI8_iff, or_false, false_or, or_true, true_or, and_false, false_and, Decidable.not_not, laq a1, a2, hin, Int.toNat_natCast]
        exact a3
    · rw [if_neg g] at hR
      have g1 : ¬ kdT tp n j = 19 := fun z => g (Or.inl z)
      have g2 : ¬ kdT tp n j = 20 := fun z => g (Or.inr z)
      simp only [↓zwq, zpq, zgq, zhq, eq_sto, eq_kill, eq_zSto, eq_mset, eq_zGd, zsq, Int.reduceToNat, List.length_cons, List.length_nil, Nat.reduceAdd, Nat.reduceLT, Nat.reduceEqDiff, Int.reduceLT, Int.reduceLE, Int.reduceEq, Int.reduceNe, Int.reduceNeg, Int.reduceAdd, Int.reduceSub, Int.reduceMul, if_true, if_false, ite_true, ite_false, reduceIte, true_and, and_true, true_implies, forall_const, decide_eq_true_eq, decide_eq_false_iff_not, Bool.not_eq_true', Bool.not_eq_false', Bool.and_eq_true, Bool.or_eq_true, Bool.and_eq_false_iff, Bool.or_eq_false_iff, Bool.not_eq_true, Bool.not_eq_false, Bool.false_eq_true, Bool.true_eq_false, false_implies, implies_true, b2i_ne, b2i_eq, zB_b2i, not_true_eq_false, not_false_eq_true, List.drop_zero, List.drop_succ_cons, zIn_iff, zI8_iff, or_false, false_or, or_true, true_or, and_false, false_and, Decidable.not_not, s146 (d + 9) h, sg_f (slit tp n j).2.2.2.2.2.2.2.2.2.2.1 g1, sg_f (slit tp n j).2.2.2.2.2.2.2.2.2.2.2.1 g2]
      exact hK m σ (hR m N σ h hx hi hl hm (by omega) hr)
theorem m164 (d D0 F : Nat) (hF : e ≤ F) (hE : HMx tp n e A D0 o E) (hd : D0 ≤ d + 8) (h : MP tp n e A i o N σ) (hN : N ≤ 2 * i) (R T : zK)
    (hR : mRes tp n e A i o N σ 0 R T (pProd (kdT tp n) F E i)) : zCallD (d + 11) 164 [90] σ R T := by
  have hL := h.lay
  simp only [c_164, b_164, ↓zwq, zpq, zgq, zhq, eq_sto, eq_kill, eq_zSto, eq_mset, eq_zGd, zsq, Int.reduceToNat, List.length_cons, List.length_nil, Nat.reduceAdd, Nat.reduceLT, Nat.reduceEqDiff, Int.reduceLT, Int.reduceLE, Int.reduceEq, Int.reduceNe, Int.reduceNeg, Int.reduceAdd, Int.reduceSub, Int.reduceMul, if_true, if_false, ite_true, ite_false, reduceIte, true_and, and_true, true_implies, forall_const, decide_eq_true_eq, decide_eq_false_iff_not, Bool.not_eq_true', Bool.not_eq_false', Bool.and_eq_true, Bool.or_eq_true, Bool.and_eq_false_iff, Bool.or_eq_false_iff, Bool.not_eq_true, Bool.not_eq_false, Bool.false_eq_true, Bool.true_eq_false, false_implies, implies_true, b2i_ne, b2i_eq, zB_b2i, not_true_eq_false, not_false_eq_true, List.drop_zero, List.drop_succ_cons, zIn_iff, zI8_iff, or_false, false_or, or_true, true_or, and_false, false_and, Decidable.not_not, laq hL]
  refine m165 d D0 F hF hE (by omega) h hN _ _ ?_
  unfold pProd at hR
  cases hq : pUse (kdT tp n) F E i with
  | error x => rw [hq, pBd_er] at hR; exact hR
  | ok x =>
    obtain ⟨t, j⟩ := x
    rw [hq, pBd_ok] at hR
    intro m N1 τ x1 x2 x3 xl x4 x5 x6
    refine mLoop164 d D0 F hF hE hd i N σ R R T _ (fun m τ hm => ?_) F j N1 m t τ (by omega) x1 x2 x3 xl x4 (by omega) (by omega) x6 hR
    simp only [↓zwq, zpq, zgq, zhq, eq_sto, eq_kill, eq_zSto, eq_mset, eq_zGd, zsq, Int.reduceToNat, List.length_cons, List.length_nil, Nat.reduceAdd, Nat.reduceLT, Nat.reduceEqDiff, Int.reduceLT, Int.reduceLE, Int.reduceEq, Int.reduceNe, Int.reduceNeg, Int.reduceAdd, Int.reduceSub, Int.reduceMul, if_true, if_false, ite_true, ite_false, reduceIte, true_and, and_true, true_implies, forall_const, decide_eq_true_eq, decide_eq_false_iff_not, Bool.not_eq_true', Bool.not_eq_false', Bool.and_eq_true, Bool.or_eq_true, Bool.and_eq_false_iff, Bool.or_eq_false_iff, Bool.not_eq_true, Bool.not_eq_false, Bool.false_eq_true, Bool.true_eq_false, false_implies, implies_true, b2i_ne, b2i_eq, zB_b2i, not_true_eq_false, not_false_eq_true, List.drop_zero, List.drop_succ_cons, zIn_iff, zI8_iff, or_false, false_or, or_true, true_or, and_false, false_and, Decidable.not_not]
    exact hm
theorem mLoop163 (d D0 F : Nat) (hF : e ≤ F) (hE : HMx tp n e A D0 o E) (hd : D0 ≤ d + 8) (i0 N0 : Nat) (σ0 : Mem) (R Rr T : zK) (K : zV) (hK : ∀ (m : Nat) τ, Rr (m : Int) τ → K [(3, 90), (1, (m : Int)), (0, 0), (0, 0)] τ) :
    ∀ (f j N m : Nat) (a : Fm) (σ : Mem), e - j ≤ f → MP tp n e A j o N σ → YFr A N0 σ0 σ → i0 < j → N0 ≤ N → m < 4000 * A + N → N + 2 * i0 ≤ N0 + 2 * j → N ≤ 2 * j → rM (kdT tp n) (tvT tp n A) (ppT tp n A) (yr σ) (4000 * A + N0) (4000 * A + N) a (m : Int) →
    mRes tp n e A i0 o N0 σ0 0 Rr T (pSumL (kdT tp n) F E f a j) →
    zLpW (cOr (c0 .ne (eCall 146 [(eP (pL 3 0)), (eP (pI 43))])) (c0 .ne (eCall 146 [(eP (pL 3 0)), (eP (pI 45))])))
  (sBlk 2 (sSeq (sSt 1 2 (eP (p1 (oGf 6 6 1) (pL 3 0))))
  (sSeq (sPfo (eP (pL 3 0)) 6 6 1 oAdd (eP (pI 1)))
  (sSeq (sSt 1 3 (eCall 164 [(eP (pL 3 0))]))
  (sSt 1 1 (eCall 144 [(eP (pL 3 0)), (eP (pI 6)), (eP (pL 1 1)), (eP (pL 1 3)), (eP (p2 oIald (p1 (oGf 6 8 3) (pL 3 0)) (pL 1 2))), (eP (pL 1 2))])))))) sSkip (zCallD (d + 11)) [(3, 90), (1, (m : Int)), (0, 0), (0, 0)] σ K R T := by
  intro f
  induction f with
  | zero =>
    intro j N m a σ hf h hx hi hl hm hb hb2 hr hR
    have hje := h.2.2.2.2
    have hk1 : ¬ kdT tp n j = 17 := by
      have := h.1.2.2.2.1
      rw [show j = e by omega]; omega
    have hk2 : ¬ kdT tp n j = 18 := by
      have := h.1.2.2.2.1
      rw [show j = e by omega]; omega
    refine zLpW_in (zCallD_mono _) ?_
    simp only [↓zwq, zpq, zgq, zhq, eq_sto, eq_kill, eq_zSto, eq_mset, eq_zGd, zsq, Int.reduceToNat, List.length_cons, List.length_nil, Nat.reduceAdd, Nat.reduceLT, Nat.reduceEqDiff, Int.reduceLT, Int.reduceLE, Int.reduceEq, Int.reduceNe, Int.reduceNeg, Int.reduceAdd, Int.reduceSub, Int.reduceMul, if_true, if_false, ite_true, ite_false, reduceIte, true_and, and_true, true_implies, forall_const, decide_eq_true_eq, decide_eq_false_iff_not, Bool.not_eq_true', Bool.not_eq_false', Bool.and_eq_true, Bool.or_eq_true, Bool.and_eq_false_iff, Bool.or_eq_false_iff, Bool.not_eq_true, Bool.not_eq_false, Bool.false_eq_true, Bool.true_eq_false, false_implies, implies_true, b2i_ne, b2i_eq, zB_b2i, not_true_eq_false, not_false_eq_true, List.drop_zero, List.drop_succ_cons, zIn_iff, zI8_iff, or_false, false_or, or_true, true_or, and_false, false_and, Decidable.not_not, s146 (d + 10) h, sg_f (slit tp n j).2.2.2.2.2.2.2.2.1 hk1, sg_f (slit tp n j).2.2.2.2.2.2.2.2.2.1 hk2]
    exact hK m σ (hR m N σ h hx hi hl hm (by omega) hr)
  | succ f ih =>
    intro j N m a σ hf h hx hi hl hm hb hb2 hr hR
    have hL := h.lay
    have hje := h.2.2.2.2
    have he := h.1.2.2.1
    have hin : (0 : Int) ≤ (j : Int) ∧ (j : Int) < ((2010 : Nat) : Int) := by omega
    have jb : j < 2147483647 := by omega
    refine zLpW_in (zCallD_mono _) ?_
    unfold pSumL at hR
    by_cases g : kdT tp n j = 17 ∨ kdT tp n j = 18
    · rw [if_pos g] at hR
      have hj : j < e := h.lt (by omega)
      have hX := h.next hj
      have fx : YFr A N σ (mset σ 90 6 ((j + 1 : Nat) : Int)) := YFr.at90 (Or.inl rfl)
      have h2k : 2 ≤ kdT tp n j := by omega
      have body : mRes tp n e A (j + 1) o N (mset σ 90 6 ((j + 1 : Nat) : Int)) 0 (fun v s => (Lay s ∧ s 95 j = tvT tp n A j) ∧ zCallD (d + 11) 144 [90, 6, (m : Int), v, tvT tp n A j, (j : Int)] s (fun v' s' => zLpW (cOr (c0 .ne (eCall 146 [(eP (pL 3 0)), (eP (pI 43))])) (c0 .ne (eCall 146 [(eP (pL 3 0)), (eP (pI 45))])))
  (sBlk 2 (sSeq (sSt 1 2 (eP (p1 (oGf 6 6 1) (pL 3 0))))
  (sSeq (sPfo (eP (pL 3 0)) 6 6 1 oAdd (eP (pI 1)))
  (sSeq (sSt 1 3 (eCall 164 [(eP (pL 3 0))]))
  (sSt 1 1 (eCall 144 [(eP (pL 3 0)), (eP (pI 6)), (eP (pL 1 1)), (eP (pL 1 3)), (eP (p2 oIald (p1 (oGf 6 8 3) (pL 3 0)) (pL 1 2))), (eP (pL 1 2))])))))) sSkip (zCallD (d + 11)) [(3, 90), (1, v'), (0, 0), (0, 0)] s' K R T) T) T (pProd (kdT tp n) F E (j + 1)) := by
        cases hq : pProd (kdT tp n) F E (j + 1) with
        | error x => rw [hq, pBd_er] at hR; exact fun τ hτ => hR τ (MErr.pre hx (MErr.pre fx hτ))
        | ok x =>
          obtain ⟨b, j2⟩ := x
          rw [hq, pBd_ok] at hR
          intro m1 N1 τ x1 x2 x3 xl x4 x5 x6
          have hj2 := x1.2.2.2.2
          have hN1 : N1 < 4000 := by omega
          refine ⟨⟨x1.lay, (x1.1.2.1 j (Nat.le_of_lt hj)).2.2 h2k⟩, ?_⟩
          refine Eq.mpr (s144 (d + 10) x1 hN1 (Nat.le_of_lt hj) _ _ _ _ _ _) ?_
          have frA : YFr A N σ τ := fx.tr x2 (Nat.le_refl _)
          have fr : YFr A N0 σ0 (addM A N1 6 (m : Int) (m1 : Int) (tvT tp n A j) (ppT tp n A j) τ) := (hx.tr frA hl).tr (YFr.addM hN1) (by omega)
          refine ih j2 (N1 + 1) (4000 * A + N1) _ _ (by omega) (x1.addM _ _ _ _ _) fr (by omega) (by omega) (by omega) (by omega) (by omega) ?_ hR
          refine ⟨4000 * A + N1, rfl, by omega, by omega, ?_⟩
          simp only [yr_add]
          simp [mNk]
          refine ⟨rM_up _ _ _ _ _ _ (Nat.le_refl _) (by omega) (fun f k a b => ?_) hr, rM_up _ _ _ _ _ _ (by omega) (by omega) (fun f k a b => ?_) x6⟩
          · rw [yr_add, if_neg (by omega)]; exact frA.2 f k (Or.inl b)
          · rw [yr_add, if_neg (by omega)]
      have stp : ∀ Q : zK, (∀ v s, ((Lay s ∧ s 95 j = tvT tp n A j) ∧ zCallD (d + 11) 144 [90, 6, (m : Int), v, tvT tp n A j, (j : Int)] s (fun v' s' => zLpW (cOr (c0 .ne (eCall 146 [(eP (pL 3 0)), (eP (pI 43))])) (c0 .ne (eCall 146 [(eP (pL 3 0)), (eP (pI 45))])))
  (sBlk 2 (sSeq (sSt 1 2 (eP (p1 (oGf 6 6 1) (pL 3 0))))
  (sSeq (sPfo (eP (pL 3 0)) 6 6 1 oAdd (eP (pI 1)))
  (sSeq (sSt 1 3 (eCall 164 [(eP (pL 3 0))]))
  (sSt 1 1 (eCall 144 [(eP (pL 3 0)), (eP (pI 6)), (eP (pL 1 1)), (eP (pL 1 3)), (eP (p2 oIald (p1 (oGf 6 8 3) (pL 3 0)) (pL 1 2))), (eP (pL 1 2))])))))) sSkip (zCallD (d + 11)) [(3, 90), (1, v'), (0, 0), (0, 0)] s' K R T) T) → Q v s) → zCallD (d + 11) 164 [90] (mset σ 90 6 ((j + 1 : Nat) : Int)) Q T := by
        intro Q hQ
        exact zCallD_mono _ _ _ _ _ _ _ _ hQ (fun _ _ => id) (m164 d D0 F hF hE (by omega) hX (by omega) _ T body)
      by_cases g1 : kdT tp n j = 17
      · simp only [↓zwq, zpq, zgq, zhq, eq_sto, eq_kill, eq_zSto, eq_mset, eq_zGd, zsq, Int.reduceToNat, List.length_cons, List.length_nil, Nat.reduceAdd, Nat.reduceLT, Nat.reduceEqDiff, Int.reduceLT, Int.reduceLE, Int.reduceEq, Int.reduceNe, Int.reduceNeg, Int.reduceAdd, Int.reduceSub, Int.reduceMul, if_true, if_false, ite_true, ite_false, reduceIte, true_and, and_true, true_implies, forall_const, decide_eq_true_eq, decide_eq_false_iff_not, Bool.not_eq_true', Bool.not_eq_false', Bool.and_eq_true, Bool.or_eq_true, Bool.and_eq_false_iff, Bool.or_eq_false_iff, Bool.not_eq_true, Bool.not_eq_false, Bool.false_eq_true, Bool.true_eq_false, false_implies, implies_true, b2i_ne, b2i_eq, zB_b2i, not_true_eq_false, not_false_eq_true, List.drop_zero, List.drop_succ_cons, zIn_iff, zI8_iff, or_false, false_or, or_true, true_or, and_false, false_and, Decidable.not_not, s146 (d + 10) h, sg_t (slit tp n j).2.2.2.2.2.2.2.2.1 g1, laq hL, h.2.1, w32s jb]
        refine stp _ ?_
        rintro v s ⟨⟨a1, a2⟩, a3⟩
        simp only [↓zwq, zpq, zgq, zhq, eq_sto, eq_kill, eq_zSto, eq_mset, eq_zGd, zsq, Int.reduceToNat, List.length_cons, List.length_nil, Nat.reduceAdd, Nat.reduceLT, Nat.reduceEqDiff, Int.reduceLT, Int.reduceLE, Int.reduceEq, Int.reduceNe, Int.reduceNeg, Int.reduceAdd, Int.reduceSub, Int.reduceMul, if_true, if_false, ite_true, ite_false, reduceIte, true_and, and_true, true_implies, forall_const, decide_eq_true_eq, decide_eq_false_iff_not, Bool.not_eq_true', Bool.not_eq_false', Bool.and_eq_true, Bool.or_eq_true, Bool.and_eq_false_iff, Bool.or_eq_false_iff, Bool.not_eq_true, Bool.not_eq_false, Bool.false_eq_true, Bool.true_eq_false, false_implies, implies_true, b2i_ne, b2i_eq, zB_b2i, not_true_eq_false, not_false_eq_true, List.drop_zero, List.drop_succ_cons, zIn_iff, zI8_iff, or_false, false_or, or_true, true_or, and_false, false_and, Decidable.not_not, laq a1, a2, hin, Int.toNat_natCast]
        exact a3
      · have g2 : kdT tp n j = 18 := g.resolve_left g1
        simp only [↓zwq, zpq, zgq, zhq, eq_sto, eq_kill, eq_zSto, eq_mset, eq_zGd, zsq, Int.reduceToNat, List.length_cons, List.length_nil, Nat.reduceAdd, Nat.reduceLT, Nat.reduceEqDiff, Int.reduceLT, Int.reduceLE, Int.reduceEq, Int.reduceNe, Int.reduceNeg, Int.reduceAdd, Int.reduceSub, Int.reduceMul, if_true, if_false, ite_true, ite_false, reduceIte, true_and, and_true, true_implies, forall_const, decide_eq_true_eq, decide_eq_false_iff_not, Bool.not_eq_true', Bool.not_eq_false', Bool.and_eq_true, Bool.or_eq_true, Bool.and_eq_false_iff, Bool.or_eq_false_iff, Bool.not_eq_true, Bool.not_eq_false, Bool.false_eq_true, Bool.true_eq_false, false_implies, implies_true, b2i_ne, b2i_eq, zB_b2i, not_true_eq_false, not_false_eq_true, List.drop_zero, List.drop_succ_cons, zIn_iff, zI8_iff, or_false, false_or, or_true, true_or, and_false, false_and, Decidable.not_not, s146 (d + 10) h, sg_f (slit tp n j).2.2.2.2.2.2.2.2.1 g1, sg_t (slit tp n j).2.2.2.2.2.2.2.2.2.1 g2, laq hL, h.2.1, w32s jb]
        refine stp _ ?_
        rintro v s ⟨⟨a1, a2⟩, a3⟩
        simp only [↓zwq, zpq, zgq, zhq, eq_sto, eq_kill, eq_zSto, eq_mset, eq_zGd, zsq, Int.reduceToNat, List.length_cons, List.length_nil, Nat.reduceAdd, Nat.reduceLT, Nat.reduceEqDiff, Int.reduceLT, Int.reduceLE, Int.reduceEq, Int.reduceNe, Int.reduceNeg, Int.reduceAdd, Int.reduceSub, Int.reduceMul, if_true, if_false, ite_true, ite_false, reduceIte, true_and, and_true, true_implies, forall_const, decide_eq_true_eq, decide_eq_false_iff_not, Bool.not_eq_true', Bool.not_eq_false', Bool.and_eq_true, Bool.or_eq_true, Bool.and_eq_false_iff, Bool.or_eq_false_iff, Bool.not_eq_true, Bool.not_eq_false, Bool.false_eq_true, Bool.true_eq_false, false_implies, implies_true, b2i_ne, b2i_eq, zB_b2i, not_true_eq_false, not_false_eq_true, List.drop_zero, List.drop_succ_cons, zIn_iff, zI8_iff, or_false, false_or, or_true, true_or, and_false, false_and, Decidable.not_not, laq a1, a2, hin, Int.toNat_natCast]
        exact a3
    · rw [if_neg g] at hR
      have g1 : ¬ kdT tp n j = 17 := fun z => g (Or.inl z)
      have g2 : ¬ kdT tp n j = 18 := fun z => g (Or.inr z)
      simp only [↓zwq, zpq, zgq, zhq, eq_sto, eq_kill, eq_zSto, eq_mset, eq_zGd, zsq, Int.reduceToNat, List.length_cons, List.length_nil, Nat.reduceAdd, Nat.reduceLT, Nat.reduceEqDiff, Int.reduceLT, Int.reduceLE, Int.reduceEq, Int.reduceNe, Int.reduceNeg, Int.reduceAdd, Int.reduceSub, Int.reduceMul, if_true, if_false, ite_true, ite_false, reduceIte, true_and, and_true, true_implies, forall_const, decide_eq_true_eq, decide_eq_false_iff_not, Bool.not_eq_true', Bool.not_eq_false', Bool.and_eq_true, Bool.or_eq_true, Bool.and_eq_false_iff, Bool.or_eq_false_iff, Bool.not_eq_true, Bool.not_eq_false, Bool.false_eq_true, Bool.true_eq_false, false_implies, implies_true, b2i_ne, b2i_eq, zB_b2i, not_true_eq_false, not_false_eq_true, List.drop_zero, List.drop_succ_cons, zIn_iff, zI8_iff, or_false, false_or, or_true, true_or, and_false, false_and, Decidable.not_not, s146 (d + 10) h, sg_f (slit tp n j).2.2.2.2.2.2.2.2.1 g1, sg_f (slit tp n j).2.2.2.2.2.2.2.2.2.1 g2]
      exact hK m σ (hR m N σ h hx hi hl hm (by omega) hr)
theorem m163 (d D0 F : Nat) (hF : e ≤ F) (hE : HMx tp n e A D0 o E) (hd : D0 ≤ d + 8) (h : MP tp n e A i o N σ) (hN : N ≤ 2 * i) (R T : zK)
    (hR : mRes tp n e A i o N σ 0 R T (pSum (kdT tp n) F E i)) : zCallD (d + 12) 163 [90] σ R T := by
  have hL := h.lay
  simp only [c_163, b_163, ↓zwq, zpq, zgq, zhq, eq_sto, eq_kill, eq_zSto, eq_mset, eq_zGd, zsq, Int.reduceToNat, List.length_cons, List.length_nil, Nat.reduceAdd, Nat.reduceLT, Nat.reduceEqDiff, Int.reduceLT, Int.reduceLE, Int.reduceEq, Int.reduceNe, Int.reduceNeg, Int.reduceAdd, Int.reduceSub, Int.reduceMul, if_true, if_false, ite_true, ite_false, reduceIte, true_and, and_true, true_implies, forall_const, decide_eq_true_eq, decide_eq_false_iff_not, Bool.not_eq_true', Bool.not_eq_false', Bool.and_eq_true, Bool.or_eq_true, Bool.and_eq_false_iff, Bool.or_eq_false_iff, Bool.not_eq_true, Bool.not_eq_false, Bool.false_eq_true, Bool.true_eq_false, false_implies, implies_true, b2i_ne, b2i_eq, zB_b2i, not_true_eq_false, not_false_eq_true, List.drop_zero, List.drop_succ_cons, zIn_iff, zI8_iff, or_false, false_or, or_true, true_or, and_false, false_and, Decidable.not_not, laq hL]
  refine m164 d D0 F hF hE (by omega) h hN _ _ ?_
  unfold pSum at hR
  cases hq : pProd (kdT tp n) F E i with
  | error x => rw [hq, pBd_er] at hR; exact hR
  | ok x =>
    obtain ⟨t, j⟩ := x
    rw [hq, pBd_ok] at hR
    intro m N1 τ x1 x2 x3 xl x4 x5 x6
    refine mLoop163 d D0 F hF hE hd i N σ R R T _ (fun m τ hm => ?_) F j N1 m t τ (by omega) x1 x2 x3 xl x4 (by omega) (by omega) x6 hR
    simp only [↓zwq, zpq, zgq, zhq, eq_sto, eq_kill, eq_zSto, eq_mset, eq_zGd, zsq, Int.reduceToNat, List.length_cons, List.length_nil, Nat.reduceAdd, Nat.reduceLT, Nat.reduceEqDiff, Int.reduceLT, Int.reduceLE, Int.reduceEq, Int.reduceNe, Int.reduceNeg, Int.reduceAdd, Int.reduceSub, Int.reduceMul, if_true, if_false, ite_true, ite_false, reduceIte, true_and, and_true, true_implies, forall_const, decide_eq_true_eq, decide_eq_false_iff_not, Bool.not_eq_true', Bool.not_eq_false', Bool.and_eq_true, Bool.or_eq_true, Bool.and_eq_false_iff, Bool.or_eq_false_iff, Bool.not_eq_true, Bool.not_eq_false, Bool.false_eq_true, Bool.true_eq_false, false_implies, implies_true, b2i_ne, b2i_eq, zB_b2i, not_true_eq_false, not_false_eq_true, List.drop_zero, List.drop_succ_cons, zIn_iff, zI8_iff, or_false, false_or, or_true, true_or, and_false, false_and, Decidable.not_not]
    exact hm
theorem m162 (d D0 F : Nat) (hF : e ≤ F) (hE : HMx tp n e A D0 o E) (hd : D0 ≤ d + 8) (h : MP tp n e A i o N σ) (hN : N ≤ 2 * i) (R T : zK)
    (hR : mRes tp n e A i o N σ 0 R T (pCmp (kdT tp n) F E i)) : zCallD (d + 13) 162 [90] σ R T := by
  have hL := h.lay
  simp only [c_162, b_162, ↓zwq, zpq, zgq, zhq, eq_sto, eq_kill, eq_zSto, eq_mset, eq_zGd, zsq, Int.reduceToNat, List.length_cons, List.length_nil, Nat.reduceAdd, Nat.reduceLT, Nat.reduceEqDiff, Int.reduceLT, Int.reduceLE, Int.reduceEq, Int.reduceNe, Int.reduceNeg, Int.reduceAdd, Int.reduceSub, Int.reduceMul, if_true, if_false, ite_true, ite_false, reduceIte, true_and, and_true, true_implies, forall_const, decide_eq_true_eq, decide_eq_false_iff_not, Bool.not_eq_true', Bool.not_eq_false', Bool.and_eq_true, Bool.or_eq_true, Bool.and_eq_false_iff, Bool.or_eq_false_iff, Bool.not_eq_true, Bool.not_eq_false, Bool.false_eq_true, Bool.true_eq_false, false_implies, implies_true, b2i_ne, b2i_eq, zB_b2i, not_true_eq_false, not_false_eq_true, List.drop_zero, List.drop_succ_cons, zIn_iff, zI8_iff, or_false, false_or, or_true, true_or, and_false, false_and, Decidable.not_not, laq hL]
  refine m163 d D0 F hF hE hd h hN _ _ ?_
  unfold pCmp at hR
  cases hq : pSum (kdT tp n) F E i with
  | error x => rw [hq, pBd_er] at hR; exact hR
  | ok x =>
    obtain ⟨t, j⟩ := x
    rw [hq, pBd_ok] at hR
    intro m N1 τ x1 x2 x3 xl x4 x5 x6
    have hL1 := x1.lay
    have hje := x1.2.2.2.2
    have he := x1.1.2.2.1
    have jb : j < 2147483647 := by omega
    have hin : (0 : Int) ≤ (j : Int) ∧ (j : Int) < ((2010 : Nat) : Int) := by omega
    have sl := slit tp n j
    by_cases g : kdT tp n j = 21 ∨ kdT tp n j = 22 ∨ kdT tp n j = 23
    · rw [if_pos g] at hR
      have hj : j < e := x1.lt (by omega)
      have hX := x1.next hj
      have h2k : 2 ≤ kdT tp n j := by omega
      have fx : YFr A N1 τ (mset τ 90 6 ((j + 1 : Nat) : Int)) := YFr.at90 (Or.inl rfl)
      have key : mRes tp n e A (j + 1) o N1 (mset τ 90 6 ((j + 1 : Nat) : Int)) 0 (fun v s => (Lay s ∧ s 95 j = tvT tp n A j) ∧ zCallD (d + 12) 144 [90, 6, (m : Int), v, tvT tp n A j, (j : Int)] s R T) T (pSum (kdT tp n) F E (j + 1)) := by
        cases hq2 : pSum (kdT tp n) F E (j + 1) with
        | error x => rw [hq2, pBd_er] at hR; exact fun υ hυ => hR υ (MErr.pre x2 (MErr.pre fx hυ))
        | ok x =>
          obtain ⟨b, k⟩ := x
          rw [hq2, pBd_ok] at hR
          intro m1 N2 υ y1 y2 y3 yl y4 y5 y6
          have hke := y1.2.2.2.2
          have hN2 : N2 < 4000 := by omega
          refine ⟨⟨y1.lay, (y1.1.2.1 j (Nat.le_of_lt hj)).2.2 h2k⟩, ?_⟩
          refine Eq.mpr (s144 (d + 11) y1 hN2 (Nat.le_of_lt hj) _ _ _ _ _ _) ?_
          have frA : YFr A N1 τ υ := fx.tr y2 (Nat.le_refl _)
          refine hR (4000 * A + N2) (N2 + 1) _ (y1.addM _ _ _ _ _) ((x2.tr frA xl).tr (YFr.addM hN2) (by omega)) (by omega) (by omega) (by omega) (by omega) ?_
          refine ⟨4000 * A + N2, rfl, by omega, by omega, ?_⟩
          simp only [yr_add]
          simp [mNk]
          refine ⟨rM_up _ _ _ _ _ _ (Nat.le_refl _) (by omega) (fun f k a b => ?_) x6, rM_up _ _ _ _ _ _ (by omega) (by omega) (fun f k a b => ?_) y6⟩
          · rw [yr_add, if_neg (by omega)]; exact frA.2 f k (Or.inl b)
          · rw [yr_add, if_neg (by omega)]
      have stp : ∀ Q : zK, (∀ v s, ((Lay s ∧ s 95 j = tvT tp n A j) ∧ zCallD (d + 12) 144 [90, 6, (m : Int), v, tvT tp n A j, (j : Int)] s R T) → Q v s) → zCallD (d + 12) 163 [90] (mset τ 90 6 ((j + 1 : Nat) : Int)) Q T := by
        intro Q hQ
        exact zCallD_mono _ _ _ _ _ _ _ _ hQ (fun _ _ => id) (m163 d D0 F hF hE hd hX (by omega) _ T key)
      have s21 := sl.2.2.2.2.2.2.2.2.2.2.2.2.1
      have s22 := sl.2.2.2.2.2.2.2.2.2.2.2.2.2.1
      have s23 := sl.2.2.2.2.2.2.2.2.2.2.2.2.2.2.1
      by_cases g1 : kdT tp n j = 21
      · simp only [↓zwq, zpq, zgq, zhq, eq_sto, eq_kill, eq_zSto, eq_mset, eq_zGd, zsq, Int.reduceToNat, List.length_cons, List.length_nil, Nat.reduceAdd, Nat.reduceLT, Nat.reduceEqDiff, Int.reduceLT, Int.reduceLE, Int.reduceEq, Int.reduceNe, Int.reduceNeg, Int.reduceAdd, Int.reduceSub, Int.reduceMul, if_true, if_false, ite_true, ite_false, reduceIte, true_and, and_true, true_implies, forall_const, decide_eq_true_eq, decide_eq_false_iff_not, Bool.not_eq_true', Bool.not_eq_false', Bool.and_eq_true, Bool.or_eq_true, Bool.and_eq_false_iff, Bool.or_eq_false_iff, Bool.not_eq_true, Bool.not_eq_false, Bool.false_eq_true, Bool.true_eq_false, false_implies, implies_true, b2i_ne, b2i_eq, zB_b2i, not_true_eq_false, not_false_eq_true, List.drop_zero, List.drop_succ_cons, zIn_iff, zI8_iff, or_false, false_or, or_true, true_or, and_false, false_and, Decidable.not_not, s146 (d + 11) x1, sg_t s21 g1, b2i, laq hL1, x1.2.1, w32s jb]
        refine stp _ ?_
        rintro v s ⟨⟨a1, a2⟩, a3⟩
        simp only [↓zwq, zpq, zgq, zhq, eq_sto, eq_kill, eq_zSto, eq_mset, eq_zGd, zsq, Int.reduceToNat, List.length_cons, List.length_nil, Nat.reduceAdd, Nat.reduceLT, Nat.reduceEqDiff, Int.reduceLT, Int.reduceLE, Int.reduceEq, Int.reduceNe, Int.reduceNeg, Int.reduceAdd, Int.reduceSub, Int.reduceMul, if_true, if_false, ite_true, ite_false, reduceIte, true_and, and_true, true_implies, forall_const, decide_eq_true_eq, decide_eq_false_iff_not, Bool.not_eq_true', Bool.not_eq_false', Bool.and_eq_true, Bool.or_eq_true, Bool.and_eq_false_iff, Bool.or_eq_false_iff, Bool.not_eq_true, Bool.not_eq_false, Bool.false_eq_true, Bool.true_eq_false, false_implies, implies_true, b2i_ne, b2i_eq, zB_b2i, not_true_eq_false, not_false_eq_true, List.drop_zero, List.drop_succ_cons, zIn_iff, zI8_iff, or_false, false_or, or_true, true_or, and_false, false_and, Decidable.not_not, laq a1, a2, hin, Int.toNat_natCast]
        exact a3
      by_cases g2 : kdT tp n j = 22
      · simp only [↓zwq, zpq, zgq, zhq, eq_sto, eq_kill, eq_zSto, eq_mset, eq_zGd, zsq, Int.reduceToNat, List.length_cons, List.length_nil, Nat.reduceAdd, Nat.reduceLT, Nat.reduceEqDiff, Int.reduceLT, Int.reduceLE, Int.reduceEq, Int.reduceNe, Int.reduceNeg, Int.reduceAdd, Int.reduceSub, Int.reduceMul, if_true, if_false, ite_true, ite_false, reduceIte, true_and, and_true, true_implies, forall_const, decide_eq_true_eq, decide_eq_false_iff_not, Bool.not_eq_true', Bool.not_eq_false', Bool.and_eq_true, Bool.or_eq_true, Bool.and_eq_false_iff, Bool.or_eq_false_iff, Bool.not_eq_true, Bool.not_eq_false, Bool.false_eq_true, Bool.true_eq_false, false_implies, implies_true, b2i_ne, b2i_eq, zB_b2i, not_true_eq_false, not_false_eq_true, List.drop_zero, List.drop_succ_cons, zIn_iff, zI8_iff, or_false, false_or, or_true, true_or, and_false, false_and, Decidable.not_not, s146 (d + 11) x1, sg_f s21 g1, sg_t s22 g2, b2i, laq hL1, x1.2.1, w32s jb]
        refine stp _ ?_
        rintro v s ⟨⟨a1, a2⟩, a3⟩
        simp only [↓zwq, zpq, zgq, zhq, eq_sto, eq_kill, eq_zSto, eq_mset, eq_zGd, zsq, Int.reduceToNat, List.length_cons, List.length_nil, Nat.reduceAdd, Nat.reduceLT, Nat.reduceEqDiff, Int.reduceLT, Int.reduceLE, Int.reduceEq, Int.reduceNe, Int.reduceNeg, Int.reduceAdd, Int.reduceSub, Int.reduceMul, if_true, if_false, ite_true, ite_false, reduceIte, true_and, and_true, true_implies, forall_const, decide_eq_true_eq, decide_eq_false_iff_not, Bool.not_eq_true', Bool.not_eq_false', Bool.and_eq_true, Bool.or_eq_true, Bool.and_eq_false_iff, Bool.or_eq_false_iff, Bool.not_eq_true, Bool.not_eq_false, Bool.false_eq_true, Bool.true_eq_false, false_implies, implies_true, b2i_ne, b2i_eq, zB_b2i, not_true_eq_false, not_false_eq_true, List.drop_zero, List.drop_succ_cons, zIn_iff, zI8_iff, or_false, false_or, or_true, true_or, and_false, false_and, Decidable.not_not, laq a1, a2, hin, Int.toNat_natCast]
        exact a3
      · have g3 : kdT tp n j = 23 := (g.resolve_left g1).resolve_left g2
        simp only [↓zwq, zpq, zgq, zhq, eq_sto, eq_kill, eq_zSto, eq_mset, eq_zGd, zsq, Int.reduceToNat, List.length_cons, List.length_nil, Nat.reduceAdd, Nat.reduceLT, Nat.reduceEqDiff, Int.reduceLT, Int.reduceLE, Int.reduceEq, Int.reduceNe, Int.reduceNeg, Int.reduceAdd, Int.reduceSub, Int.reduceMul, if_true, if_false, ite_true, ite_false, reduceIte, true_and, and_true, true_implies, forall_const, decide_eq_true_eq, decide_eq_false_iff_not, Bool.not_eq_true', Bool.not_eq_false', Bool.and_eq_true, Bool.or_eq_true, Bool.and_eq_false_iff, Bool.or_eq_false_iff, Bool.not_eq_true, Bool.not_eq_false, Bool.false_eq_true, Bool.true_eq_false, false_implies, implies_true, b2i_ne, b2i_eq, zB_b2i, not_true_eq_false, not_false_eq_true, List.drop_zero, List.drop_succ_cons, zIn_iff, zI8_iff, or_false, false_or, or_true, true_or, and_false, false_and, Decidable.not_not, s146 (d + 11) x1, sg_f s21 g1, sg_f s22 g2, sg_t s23 g3, b2i, laq hL1, x1.2.1, w32s jb, decide_true, decide_false, Bool.not_false, Bool.not_true]
        refine stp _ ?_
        rintro v s ⟨⟨a1, a2⟩, a3⟩
        simp only [↓zwq, zpq, zgq, zhq, eq_sto, eq_kill, eq_zSto, eq_mset, eq_zGd, zsq, Int.reduceToNat, List.length_cons, List.length_nil, Nat.reduceAdd, Nat.reduceLT, Nat.reduceEqDiff, Int.reduceLT, Int.reduceLE, Int.reduceEq, Int.reduceNe, Int.reduceNeg, Int.reduceAdd, Int.reduceSub, Int.reduceMul, if_true, if_false, ite_true, ite_false, reduceIte, true_and, and_true, true_implies, forall_const, decide_eq_true_eq, decide_eq_false_iff_not, Bool.not_eq_true', Bool.not_eq_false', Bool.and_eq_true, Bool.or_eq_true, Bool.and_eq_false_iff, Bool.or_eq_false_iff, Bool.not_eq_true, Bool.not_eq_false, Bool.false_eq_true, Bool.true_eq_false, false_implies, implies_true, b2i_ne, b2i_eq, zB_b2i, not_true_eq_false, not_false_eq_true, List.drop_zero, List.drop_succ_cons, zIn_iff, zI8_iff, or_false, false_or, or_true, true_or, and_false, false_and, Decidable.not_not, laq a1, a2, hin, Int.toNat_natCast]
        exact a3
    · rw [if_neg g] at hR
      have g1 : ¬ kdT tp n j = 21 := fun z => g (Or.inl z)
      have g2 : ¬ kdT tp n j = 22 := fun z => g (Or.inr (Or.inl z))
      have g3 : ¬ kdT tp n j = 23 := fun z => g (Or.inr (Or.inr z))
      simp only [↓zwq, zpq, zgq, zhq, eq_sto, eq_kill, eq_zSto, eq_mset, eq_zGd, zsq, Int.reduceToNat, List.length_cons, List.length_nil, Nat.reduceAdd, Nat.reduceLT, Nat.reduceEqDiff, Int.reduceLT, Int.reduceLE, Int.reduceEq, Int.reduceNe, Int.reduceNeg, Int.reduceAdd, Int.reduceSub, Int.reduceMul, if_true, if_false, ite_true, ite_false, reduceIte, true_and, and_true, true_implies, forall_const, decide_eq_true_eq, decide_eq_false_iff_not, Bool.not_eq_true', Bool.not_eq_false', Bool.and_eq_true, Bool.or_eq_true, Bool.and_eq_false_iff, Bool.or_eq_false_iff, Bool.not_eq_true, Bool.not_eq_false, Bool.false_eq_true, Bool.true_eq_false, false_implies, implies_true, b2i_ne, b2i_eq, zB_b2i, not_true_eq_false, not_false_eq_true, List.drop_zero, List.drop_succ_cons, zIn_iff, zI8_iff, or_false, false_or, or_true, true_or, and_false, false_and, Decidable.not_not, s146 (d + 11) x1, sg_f sl.2.2.2.2.2.2.2.2.2.2.2.2.1 g1, sg_f sl.2.2.2.2.2.2.2.2.2.2.2.2.2.1 g2, sg_f sl.2.2.2.2.2.2.2.2.2.2.2.2.2.2.1 g3, b2i, decide_true, decide_false, Bool.not_false, Bool.not_true]
      exact hR m N1 τ x1 x2 x3 xl x4 x5 x6
end
