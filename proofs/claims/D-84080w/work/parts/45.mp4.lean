/-! LazyFormsModel's reader: uses -/
def YFl (A N l : Nat) (σ τ : Mem) : Prop := Fr wQ σ τ ∧ ∀ f k, (k < 4000 * A + N ∨ 4000 * A + 4000 ≤ k) → ¬ (f = 4 ∧ k = l) → yr τ f k = yr σ f k
theorem YFl.of {A N l : Nat} {σ τ : Mem} (h : YFr A N σ τ) : YFl A N l σ τ := ⟨h.1, fun f k hk _ => h.2 f k hk⟩
theorem YFl.lo {A N M l : Nat} {σ τ : Mem} (h : YFl A N l σ τ) (hl : 4000 * A + M ≤ l) (hl2 : l < 4000 * A + 4000) (hm : M ≤ N) : YFr A M σ τ := ⟨h.1, fun f k hk => h.2 f k (by omega) (by omega)⟩
section
variable {tp : Nat → Int} {n e A i o N : Nat} {σ : Mem} {E : Nat → Rs}
theorem mArgs (d D0 : Nat) (hE : HMx tp n e A D0 o E) (hd : D0 ≤ d + 8) (c1v c2v c3v : zTV) (fi : Nat) (R T : zK) (K : zV) :
    ∀ (F j N l : Nat) (σ : Mem), e - j ≤ F → MP tp n e A j o N σ → N ≤ 2 * j → 4000 * A ≤ l → l < 4000 * A + N → Is (yr σ 4 l) (-1) →
    (match pArgs (kdT tp n) E F j with
      | .ok (as, k) => ∀ (v : Int) (la N' : Nat) (τ : Mem), MP tp n e A k o N' τ → YFl A N l σ τ → Is (yr τ 4 l) v → N ≤ N' → N' + 2 * j ≤ N + 2 * k → j ≤ k → rM (kdT tp n) (tvT tp n A) (ppT tp n A) (yr τ) (4000 * A + N) (4000 * A + N') as v → K [(3, 90), c1v, c2v, c3v, (1, (fi : Int)), (1, (la : Int)), (0, 0), (0, 0), (0, 0)] τ
      | .error (f, k) => ∀ τ, MErr tp n f k σ τ → T 3 τ) →
    zLpW (c0 .ne (eCall 155 [(eP (pL 3 0))])) (sBlk 6 (sSeq (sSt 1 6 (eP (p1 (oGf 6 6 1) (pL 3 0))))
  (sSeq (sSt 1 7 (eCall 167 [(eP (pL 3 0))]))
  (sSeq (sSt 1 8 (eCall 144 [(eP (pL 3 0)), (eP (pI 10)), (eP (pL 1 7)), (eP (pI (-1))), (eP (pI (-1))), (eP (pL 1 6))]))
  (sSeq (sIfE (cP (k0 .lt (pL 1 4)))
  (sSt 1 4 (eP (pL 1 8)))
  (sSe 1 (eP (p1 (oGf 6 15 3) (pL 3 0))) (eP (pL 1 5)) (eP (pL 1 8))))
  (sSt 1 5 (eP (pL 1 8)))))))) sSkip (zCallD (d + 9)) [(3, 90), c1v, c2v, c3v, (1, (fi : Int)), (1, (l : Int)), (0, 0), (0, 0), (0, 0)] σ K R T := by
  intro F
  induction F with
  | zero =>
    intro j N l σ hF h hN hl0 hl h6 hR
    have hje := h.2.2.2.2
    have hk : isAt (kdT tp n j) = false := by
      have := h.1.2.2.2.1
      rw [show j = e by omega]
      unfold isAt; simp; omega
    refine zLpW_in (zCallD_mono _) ?_
    simp only [↓zwq, zpq, zgq, zhq, eq_sto, eq_kill, eq_zSto, eq_mset, eq_zGd, zsq, Int.reduceToNat, List.length_cons, List.length_nil, Nat.reduceAdd, Nat.reduceLT, Nat.reduceEqDiff, Int.reduceLT, Int.reduceLE, Int.reduceEq, Int.reduceNe, Int.reduceNeg, Int.reduceAdd, Int.reduceSub, Int.reduceMul, if_true, if_false, ite_true, ite_false, reduceIte, true_and, and_true, true_implies, forall_const, decide_eq_true_eq, decide_eq_false_iff_not, Bool.not_eq_true', Bool.not_eq_false', Bool.and_eq_true, Bool.or_eq_true, Bool.and_eq_false_iff, Bool.or_eq_false_iff, Bool.not_eq_true, Bool.not_eq_false, Bool.false_eq_true, Bool.true_eq_false, false_implies, implies_true, b2i_ne, b2i_eq, zB_b2i, not_true_eq_false, not_false_eq_true, List.drop_zero, List.drop_succ_cons, zIn_iff, zI8_iff, or_false, false_or, or_true, true_or, and_false, false_and, Decidable.not_not, s155 (d + 7) h, hk]
    exact hR (-1) l N σ h (YFl.of YFr.rf) h6 (Nat.le_refl _) (by omega) (Nat.le_refl _) rfl
  | succ F ih =>
    intro j N l σ hF h hN hl0 hl h6 hR
    have hL := h.lay
    have hje := h.2.2.2.2
    have he := h.1.2.2.1
    have hA := h.1.1.2.2.1
    refine zLpW_in (zCallD_mono _) ?_
    unfold pArgs at hR
    cases hk : isAt (kdT tp n j) with
    | false =>
      rw [hk, if_neg (by decide)] at hR
      simp only [↓zwq, zpq, zgq, zhq, eq_sto, eq_kill, eq_zSto, eq_mset, eq_zGd, zsq, Int.reduceToNat, List.length_cons, List.length_nil, Nat.reduceAdd, Nat.reduceLT, Nat.reduceEqDiff, Int.reduceLT, Int.reduceLE, Int.reduceEq, Int.reduceNe, Int.reduceNeg, Int.reduceAdd, Int.reduceSub, Int.reduceMul, if_true, if_false, ite_true, ite_false, reduceIte, true_and, and_true, true_implies, forall_const, decide_eq_true_eq, decide_eq_false_iff_not, Bool.not_eq_true', Bool.not_eq_false', Bool.and_eq_true, Bool.or_eq_true, Bool.and_eq_false_iff, Bool.or_eq_false_iff, Bool.not_eq_true, Bool.not_eq_false, Bool.false_eq_true, Bool.true_eq_false, false_implies, implies_true, b2i_ne, b2i_eq, zB_b2i, not_true_eq_false, not_false_eq_true, List.drop_zero, List.drop_succ_cons, zIn_iff, zI8_iff, or_false, false_or, or_true, true_or, and_false, false_and, Decidable.not_not, s155 (d + 7) h, hk]
      exact hR (-1) l N σ h (YFl.of YFr.rf) h6 (Nat.le_refl _) (by omega) (Nat.le_refl _) rfl
    | true =>
      rw [hk, if_pos rfl] at hR
      simp only [↓zwq, zpq, zgq, zhq, eq_sto, eq_kill, eq_zSto, eq_mset, eq_zGd, zsq, Int.reduceToNat, List.length_cons, List.length_nil, Nat.reduceAdd, Nat.reduceLT, Nat.reduceEqDiff, Int.reduceLT, Int.reduceLE, Int.reduceEq, Int.reduceNe, Int.reduceNeg, Int.reduceAdd, Int.reduceSub, Int.reduceMul, if_true, if_false, ite_true, ite_false, reduceIte, true_and, and_true, true_implies, forall_const, decide_eq_true_eq, decide_eq_false_iff_not, Bool.not_eq_true', Bool.not_eq_false', Bool.and_eq_true, Bool.or_eq_true, Bool.and_eq_false_iff, Bool.or_eq_false_iff, Bool.not_eq_true, Bool.not_eq_false, Bool.false_eq_true, Bool.true_eq_false, false_implies, implies_true, b2i_ne, b2i_eq, zB_b2i, not_true_eq_false, not_false_eq_true, List.drop_zero, List.drop_succ_cons, zIn_iff, zI8_iff, or_false, false_or, or_true, true_or, and_false, false_and, Decidable.not_not, s155 (d + 7) h, hk, laq hL, h.2.1]
      refine m167 d D0 hE hd h hN _ _ ?_
      cases hq : pAtom (kdT tp n) E j with
      | error x => rw [hq, pBd_er] at hR; exact hR
      | ok x =>
        obtain ⟨t, j'⟩ := x
        rw [hq, pBd_ok] at hR
        intro m N1 τ x1 x2 x3 xl x4 x5 x6
        have hL1 := x1.lay
        have jle : j ≤ e := by omega
        have hj1 := x1.2.2.2.2
        have hN1 : N1 < 4000 := by omega
        have hX1 := x1.addM 10 (m : Int) (-1) (-1) (ppT tp n A j)
        have hin2 : (0 : Int) ≤ (l : Int) ∧ (l : Int) < ((16000 : Nat) : Int) := by omega
        have hfi : ¬ ((fi : Int) < 0) := by omega
        simp only [↓zwq, zpq, zgq, zhq, eq_sto, eq_kill, eq_zSto, eq_mset, eq_zGd, zsq, Int.reduceToNat, List.length_cons, List.length_nil, Nat.reduceAdd, Nat.reduceLT, Nat.reduceEqDiff, Int.reduceLT, Int.reduceLE, Int.reduceEq, Int.reduceNe, Int.reduceNeg, Int.reduceAdd, Int.reduceSub, Int.reduceMul, if_true, if_false, ite_true, ite_false, reduceIte, true_and, and_true, true_implies, forall_const, decide_eq_true_eq, decide_eq_false_iff_not, Bool.not_eq_true', Bool.not_eq_false', Bool.and_eq_true, Bool.or_eq_true, Bool.and_eq_false_iff, Bool.or_eq_false_iff, Bool.not_eq_true, Bool.not_eq_false, Bool.false_eq_true, Bool.true_eq_false, false_implies, implies_true, b2i_ne, b2i_eq, zB_b2i, not_true_eq_false, not_false_eq_true, List.drop_zero, List.drop_succ_cons, zIn_iff, zI8_iff, or_false, false_or, or_true, true_or, and_false, false_and, Decidable.not_not, laq hL1, s144 (d + 8) x1 hN1 jle, adq, hfi, Int.toNat_natCast, hin2]
        have fA : YFr A N σ (addM A N1 10 (m : Int) (-1) (-1) (ppT tp n A j) τ) := x2.tr (YFr.addM hN1) (by omega)
        have hX3 : MP tp n e A j' o (N1 + 1) (mset (addM A N1 10 (m : Int) (-1) (-1) (ppT tp n A j) τ) 101 l ((4000 * A + N1 : Nat) : Int)) := hX1.setn (f := 4) rfl (by decide)
        have fL : YFl A N l σ (mset (addM A N1 10 (m : Int) (-1) (-1) (ppT tp n A j) τ) 101 l ((4000 * A + N1 : Nat) : Int)) := by
          refine ⟨fA.1.set (by simp [wQ]), fun f k hk' hne => ?_⟩
          rw [yr_set (f := 4) rfl (by decide), if_neg hne]
          exact fA.2 f k hk'
        refine ih j' (N1 + 1) (4000 * A + N1) _ (by omega) hX3 (by omega) (by omega) (by omega) ?_ ?_
        · unfold Is; rw [yr_set (f := 4) rfl (by decide), if_neg (by omega), yr_add]; simp
        · cases hq2 : pArgs (kdT tp n) E F j' with
          | error x => rw [hq2, pBd_er] at hR; exact fun υ hυ => hR υ ⟨fL.1.tr hυ.1, hυ.2⟩
          | ok x =>
            rw [hq2] at hR
            obtain ⟨as, k'⟩ := x
            rw [pBd_ok] at hR
            intro v la N' υ y1 y2 y3 y4 y5 y6 y7
            have hk' := y1.2.2.2.2
            refine hR ((4000 * A + N1 : Nat) : Int) la N' υ y1 ⟨fL.1.tr y2.1, fun f k a b => (y2.2 f k (by omega) (by omega)).trans (fL.2 f k a b)⟩ ?_ (by omega) (by omega) (by omega) ?_
            · unfold Is; rw [y2.2 4 l (Or.inl (by omega)) (by omega), yr_set (f := 4) rfl (by decide), if_pos ⟨rfl, rfl⟩]
            · refine ⟨4000 * A + N1, rfl, by omega, by omega, ?_, ?_⟩
              · refine rM_el (lo := 4000 * A + N) (hi := 4000 * A + N1 + 1) (X := yr (mset (addM A N1 10 (m : Int) (-1) (-1) (ppT tp n A j) τ) 101 l ((4000 * A + N1 : Nat) : Int))) (Or.inr (Or.inr (Or.inr rfl))) (Nat.le_refl _) (by omega) (fun f k a b c => y2.2 f k (Or.inl (by omega)) c) ?_
                refine ⟨4000 * A + N1, rfl, by omega, Nat.lt_succ_self _, ?_⟩
                have xe : ∀ f, yr (mset (addM A N1 10 (m : Int) (-1) (-1) (ppT tp n A j) τ) 101 l ((4000 * A + N1 : Nat) : Int)) f (4000 * A + N1) = yr (addM A N1 10 (m : Int) (-1) (-1) (ppT tp n A j) τ) f (4000 * A + N1) := fun f => by rw [yr_set (f := 4) rfl (by decide), if_neg (by omega)]
                simp only [xe, yr_add]
                simp [mNk]
                refine rM_up _ _ _ _ _ _ (Nat.le_refl _) (Nat.le_refl _) (fun f k a b => ?_) x6
                show yr (mset (addM A N1 10 (m : Int) (-1) (-1) (ppT tp n A j) τ) 101 l ((4000 * A + N1 : Nat) : Int)) f k = yr τ f k
                rw [yr_set (f := 4) rfl (by decide), if_neg (by omega), yr_add, if_neg (by omega)]
              · rw [show yr υ 4 (4000 * A + N1) = v from y3]
                exact rM_up _ _ _ _ _ _ (by omega) (Nat.le_refl _) (fun f k a b => rfl) y7
theorem m165 (d D0 F : Nat) (hF : e ≤ F) (hE : HMx tp n e A D0 o E) (hd : D0 ≤ d + 8) (h : MP tp n e A i o N σ) (hN : N ≤ 2 * i) (R T : zK)
    (hR : mRes tp n e A i o N σ 0 R T (pUse (kdT tp n) F E i)) : zCallD (d + 10) 165 [90] σ R T := by
  have hL := h.lay
  have hie := h.2.2.2.2
  have he := h.1.2.2.1
  have hA := h.1.1.2.2.1
  have hin0 : (0 : Int) ≤ (i : Int) ∧ (i : Int) < ((2010 : Nat) : Int) := by omega
  have kl := (klit tp n i).2.2.2.1
  simp only [c_165, b_165, ↓zwq, zpq, zgq, zhq, eq_sto, eq_kill, eq_zSto, eq_mset, eq_zGd, zsq, Int.reduceToNat, List.length_cons, List.length_nil, Nat.reduceAdd, Nat.reduceLT, Nat.reduceEqDiff, Int.reduceLT, Int.reduceLE, Int.reduceEq, Int.reduceNe, Int.reduceNeg, Int.reduceAdd, Int.reduceSub, Int.reduceMul, if_true, if_false, ite_true, ite_false, reduceIte, true_and, and_true, true_implies, forall_const, decide_eq_true_eq, decide_eq_false_iff_not, Bool.not_eq_true', Bool.not_eq_false', Bool.and_eq_true, Bool.or_eq_true, Bool.and_eq_false_iff, Bool.or_eq_false_iff, Bool.not_eq_true, Bool.not_eq_false, Bool.false_eq_true, Bool.true_eq_false, false_implies, implies_true, b2i_ne, b2i_eq, zB_b2i, not_true_eq_false, not_false_eq_true, List.drop_zero, List.drop_succ_cons, zIn_iff, zI8_iff, or_false, false_or, or_true, true_or, and_false, false_and, Decidable.not_not, laq hL, h.2.1, hin0, Int.toNat_natCast, (h.1.2.1 i hie).1, kl]
  refine m167 d D0 hE hd h hN _ _ ?_
  unfold pUse at hR
  cases hq : pAtom (kdT tp n) E i with
  | error x => rw [hq, pBd_er] at hR; exact hR
  | ok x =>
    obtain ⟨t, j⟩ := x
    rw [hq, pBd_ok] at hR
    intro m N1 τ x1 x2 x3 xl x4 x5 x6
    have hje := x1.2.2.2.2
    obtain ⟨F', rfl⟩ : ∃ f, F = f + 1 := ⟨F - 1, by omega⟩
    have hL1 := x1.lay
    have hN1 : N1 ≤ 4000 := by omega
    refine zLpW_in (zCallD_mono _) ?_
    unfold pArgs at hR
    cases hk : isAt (kdT tp n j) with
    | false =>
      rw [hk, if_neg (by decide), pBd_ok] at hR
      simp only [↓zwq, zpq, zgq, zhq, eq_sto, eq_kill, eq_zSto, eq_mset, eq_zGd, zsq, Int.reduceToNat, List.length_cons, List.length_nil, Nat.reduceAdd, Nat.reduceLT, Nat.reduceEqDiff, Int.reduceLT, Int.reduceLE, Int.reduceEq, Int.reduceNe, Int.reduceNeg, Int.reduceAdd, Int.reduceSub, Int.reduceMul, if_true, if_false, ite_true, ite_false, reduceIte, true_and, and_true, true_implies, forall_const, decide_eq_true_eq, decide_eq_false_iff_not, Bool.not_eq_true', Bool.not_eq_false', Bool.and_eq_true, Bool.or_eq_true, Bool.and_eq_false_iff, Bool.or_eq_false_iff, Bool.not_eq_true, Bool.not_eq_false, Bool.false_eq_true, Bool.true_eq_false, false_implies, implies_true, b2i_ne, b2i_eq, zB_b2i, not_true_eq_false, not_false_eq_true, List.drop_zero, List.drop_succ_cons, zIn_iff, zI8_iff, or_false, false_or, or_true, true_or, and_false, false_and, Decidable.not_not, s155 (d + 7) x1, hk]
      exact hR m N1 τ x1 x2 x3 xl x4 (by omega) x6
    | true =>
      rw [hk, if_pos rfl] at hR
      simp only [↓zwq, zpq, zgq, zhq, eq_sto, eq_kill, eq_zSto, eq_mset, eq_zGd, zsq, Int.reduceToNat, List.length_cons, List.length_nil, Nat.reduceAdd, Nat.reduceLT, Nat.reduceEqDiff, Int.reduceLT, Int.reduceLE, Int.reduceEq, Int.reduceNe, Int.reduceNeg, Int.reduceAdd, Int.reduceSub, Int.reduceMul, if_true, if_false, ite_true, ite_false, reduceIte, true_and, and_true, true_implies, forall_const, decide_eq_true_eq, decide_eq_false_iff_not, Bool.not_eq_true', Bool.not_eq_false', Bool.and_eq_true, Bool.or_eq_true, Bool.and_eq_false_iff, Bool.or_eq_false_iff, Bool.not_eq_true, Bool.not_eq_false, Bool.false_eq_true, Bool.true_eq_false, false_implies, implies_true, b2i_ne, b2i_eq, zB_b2i, not_true_eq_false, not_false_eq_true, List.drop_zero, List.drop_succ_cons, zIn_iff, zI8_iff, or_false, false_or, or_true, true_or, and_false, false_and, Decidable.not_not, s155 (d + 7) x1, hk, laq hL1, x1.2.1]
      refine m167 d D0 hE hd x1 (by omega) _ _ ?_
      cases hq2 : pAtom (kdT tp n) E j with
      | error x => rw [hq2, pBd_er, pBd_er] at hR; exact fun υ hυ => hR υ (MErr.pre x2 hυ)
      | ok x =>
        obtain ⟨t2, j2⟩ := x
        rw [hq2, pBd_ok] at hR
        intro m2 N2 υ y1 y2 y3 yl y4 y5 y6
        have hj2 := y1.2.2.2.2
        have hL2 := y1.lay
        have hN2 : N2 < 4000 := by omega
        have hX1 := y1.addM 10 (m2 : Int) (-1) (-1) (ppT tp n A j)
        simp only [↓zwq, zpq, zgq, zhq, eq_sto, eq_kill, eq_zSto, eq_mset, eq_zGd, zsq, Int.reduceToNat, List.length_cons, List.length_nil, Nat.reduceAdd, Nat.reduceLT, Nat.reduceEqDiff, Int.reduceLT, Int.reduceLE, Int.reduceEq, Int.reduceNe, Int.reduceNeg, Int.reduceAdd, Int.reduceSub, Int.reduceMul, if_true, if_false, ite_true, ite_false, reduceIte, true_and, and_true, true_implies, forall_const, decide_eq_true_eq, decide_eq_false_iff_not, Bool.not_eq_true', Bool.not_eq_false', Bool.and_eq_true, Bool.or_eq_true, Bool.and_eq_false_iff, Bool.or_eq_false_iff, Bool.not_eq_true, Bool.not_eq_false, Bool.false_eq_true, Bool.true_eq_false, false_implies, implies_true, b2i_ne, b2i_eq, zB_b2i, not_true_eq_false, not_false_eq_true, List.drop_zero, List.drop_succ_cons, zIn_iff, zI8_iff, or_false, false_or, or_true, true_or, and_false, false_and, Decidable.not_not, laq hL2, s144 (d + 8) y1 hN2 (show j ≤ e by omega)]
        refine mArgs d D0 hE hd _ _ _ _ R T _ F' j2 (N2 + 1) (4000 * A + N2) _ (by omega) hX1 (by omega) (by omega) (by omega) (by unfold Is; rw [yr_add]; simp) ?_
        cases hq3 : pArgs (kdT tp n) E F' j2 with
        | error x => rw [hq3, pBd_er, pBd_er] at hR; exact fun ρ hρ => hR ρ (MErr.pre x2 (MErr.pre y2 (MErr.pre (YFr.addM hN2) hρ)))
        | ok x =>
          obtain ⟨as, k⟩ := x
          rw [hq3, pBd_ok, pBd_ok] at hR
          intro v la N' ρ z1 z2 z3 z4 z5 z6 z7
          have hL3 := z1.lay
          have hke := z1.2.2.2.2
          have fr2 : YFr A N2 υ ρ := (YFr.addM (k := 10) (a := (m2 : Int)) (b := -1) (c := -1) (p := ppT tp n A j) hN2).tr (z2.lo (Nat.le_refl _) (by omega) (by omega)) (Nat.le_refl _)
          have fr1 : YFr A N1 τ ρ := y2.tr fr2 yl
          have fr0 : YFr A N σ ρ := x2.tr fr1 xl
          have hlist : rM (kdT tp n) (tvT tp n A) (ppT tp n A) (yr ρ) (4000 * A + N1) (4000 * A + N') (.append (nd 11 j t2 .nil) as) ((4000 * A + N2 : Nat) : Int) := by
            refine ⟨4000 * A + N2, rfl, by omega, by omega, ?_, ?_⟩
            · refine rM_el (lo := 4000 * A + N1) (hi := 4000 * A + N2 + 1) (X := yr (addM A N2 10 (m2 : Int) (-1) (-1) (ppT tp n A j) υ)) (Or.inr (Or.inr (Or.inr rfl))) (Nat.le_refl _) (by omega) (fun f k a b c => z2.2 f k (Or.inl (by omega)) c) ?_
              refine ⟨4000 * A + N2, rfl, by omega, Nat.lt_succ_self _, ?_⟩
              simp only [yr_add]
              simp [mNk]
              refine rM_up _ _ _ _ _ _ (Nat.le_refl _) (Nat.le_refl _) (fun f k a b => ?_) y6
              rw [yr_add, if_neg (by omega)]
            · rw [show yr ρ 4 (4000 * A + N2) = v from z3]
              exact rM_up _ _ _ _ _ _ (by omega) (Nat.le_refl _) (fun f k a b => rfl) z7
          have hnn : ¬ (((4000 * A + N2 : Nat) : Int) < 0) := by omega
          have hinm : (0 : Int) ≤ (m : Int) ∧ (m : Int) < ((16000 : Nat) : Int) := by omega
          dsimp only at hR
          by_cases k3 : kdT tp n i = 3
          · rw [if_pos k3] at hR
            have ha : pAtom (kdT tp n) E i = .ok (nd 2 i .nil .nil, i + 1) := by
              unfold pAtom; rw [if_neg (by rw [k3]; decide), if_neg (by rw [k3]; decide), if_pos k3]
            rw [ha] at hq
            cases hq
            have hNm : 4000 * A + N ≤ m := by obtain ⟨m', em, q1, -⟩ := x6; cases Int.ofNat.inj em; exact q1
            have mlt : m < 4000 * A + N' := by omega
            have low : ∀ f g, 4000 * A + N1 ≤ g → ¬ (f = 2 ∧ g = m) := fun f g a z => by omega
            have hdone : rM (kdT tp n) (tvT tp n A) (ppT tp n A) (yr (mset ρ 99 m ((4000 * A + N2 : Nat) : Int))) (4000 * A + N) (4000 * A + N') (nd 2 i (.append (nd 11 (i + 1) t2 .nil) as) .nil) (m : Int) := by
              have xe : ∀ f g, yr (mset ρ 99 m ((4000 * A + N2 : Nat) : Int)) f g = if f = 2 ∧ g = m then ((4000 * A + N2 : Nat) : Int) else yr ρ f g := fun f g => by rw [yr_set (f := 2) rfl (by decide)]
              have hl : rM (kdT tp n) (tvT tp n A) (ppT tp n A) (yr (mset ρ 99 m ((4000 * A + N2 : Nat) : Int))) (4000 * A + N) (4000 * A + N') (.append (nd 11 (i + 1) t2 .nil) as) ((4000 * A + N2 : Nat) : Int) := rM_up _ _ _ _ _ _ (by omega) (Nat.le_refl _) (fun f k a b => by rw [xe, if_neg (low f k a)]) hlist
              have e2 : yr (mset ρ 99 m ((4000 * A + N2 : Nat) : Int)) 2 m = ((4000 * A + N2 : Nat) : Int) := by rw [xe, if_pos ⟨rfl, rfl⟩]
              have ef : ∀ f, f ≠ 2 → yr (mset ρ 99 m ((4000 * A + N2 : Nat) : Int)) f m = yr τ f m := fun f hf => by rw [xe, if_neg (fun z => hf z.1)]; exact fr1.2 f m (Or.inl x4)
              obtain ⟨m', em, q1, q2, c0, c1, c2, c3, -⟩ := x6
              cases Int.ofNat.inj em
              refine ⟨m, rfl, q1, mlt, ?_, ?_, fun z => absurd z (by decide), fun _ => ⟨?_, ?_⟩, fun z => absurd z (by decide), fun z => absurd z (by decide), fun z => absurd z (by decide), fun z => absurd z (by decide), fun z => absurd z (by decide), fun z => absurd z (by decide)⟩
              · rw [ef 0 (by decide)]; exact c0
              · rw [ef 5 (by decide)]; exact c1
              · rw [ef 1 (by decide)]; exact (c3 rfl).1
              · rw [e2]; exact hl
            have hX4 : MP tp n e A k o N' (mset ρ 99 m ((4000 * A + N2 : Nat) : Int)) := z1.setn (f := 2) rfl (by decide)
            have fr4 : YFr A N σ (mset ρ 99 m ((4000 * A + N2 : Nat) : Int)) := fr0.setn (f := 2) rfl (by decide) hNm (by omega)
            simp only [↓zwq, zpq, zgq, zhq, eq_sto, eq_kill, eq_zSto, eq_mset, eq_zGd, zsq, Int.reduceToNat, List.length_cons, List.length_nil, Nat.reduceAdd, Nat.reduceLT, Nat.reduceEqDiff, Int.reduceLT, Int.reduceLE, Int.reduceEq, Int.reduceNe, Int.reduceNeg, Int.reduceAdd, Int.reduceSub, Int.reduceMul, if_true, if_false, ite_true, ite_false, reduceIte, true_and, and_true, true_implies, forall_const, decide_eq_true_eq, decide_eq_false_iff_not, Bool.not_eq_true', Bool.not_eq_false', Bool.and_eq_true, Bool.or_eq_true, Bool.and_eq_false_iff, Bool.or_eq_false_iff, Bool.not_eq_true, Bool.not_eq_false, Bool.false_eq_true, Bool.true_eq_false, false_implies, implies_true, b2i_ne, b2i_eq, zB_b2i, not_true_eq_false, not_false_eq_true, List.drop_zero, List.drop_succ_cons, zIn_iff, zI8_iff, or_false, false_or, or_true, true_or, and_false, false_and, Decidable.not_not, hnn, k3, b2i, decide_true, laq hL3, Int.toNat_natCast, hinm]
            exact hR m N' _ hX4 fr4 (by omega) (by omega) mlt (by omega) hdone
          · rw [if_neg k3] at hR
            have hN' : N' < 4000 := by omega
            simp only [↓zwq, zpq, zgq, zhq, eq_sto, eq_kill, eq_zSto, eq_mset, eq_zGd, zsq, Int.reduceToNat, List.length_cons, List.length_nil, Nat.reduceAdd, Nat.reduceLT, Nat.reduceEqDiff, Int.reduceLT, Int.reduceLE, Int.reduceEq, Int.reduceNe, Int.reduceNeg, Int.reduceAdd, Int.reduceSub, Int.reduceMul, if_true, if_false, ite_true, ite_false, reduceIte, true_and, and_true, true_implies, forall_const, decide_eq_true_eq, decide_eq_false_iff_not, Bool.not_eq_true', Bool.not_eq_false', Bool.and_eq_true, Bool.or_eq_true, Bool.and_eq_false_iff, Bool.or_eq_false_iff, Bool.not_eq_true, Bool.not_eq_false, Bool.false_eq_true, Bool.true_eq_false, false_implies, implies_true, b2i_ne, b2i_eq, zB_b2i, not_true_eq_false, not_false_eq_true, List.drop_zero, List.drop_succ_cons, zIn_iff, zI8_iff, or_false, false_or, or_true, true_or, and_false, false_and, Decidable.not_not, hnn, k3, b2i, decide_false, laq hL3, s144 (d + 8) z1 hN' hie]
            refine hR (4000 * A + N') (N' + 1) _ (z1.addM _ _ _ _ _) (fr0.tr (YFr.addM hN') (by omega)) (by omega) (by omega) (by omega) (by omega) ?_
            refine ⟨4000 * A + N', rfl, by omega, by omega, ?_⟩
            simp only [yr_add]
            simp [mNk]
            refine ⟨rM_up _ _ _ _ _ _ (Nat.le_refl _) (by omega) (fun f k a b => ?_) x6, rM_up _ _ _ _ _ _ (by omega) (by omega) (fun f k a b => ?_) hlist⟩
            · rw [yr_add, if_neg (by omega)]; exact fr1.2 f k (Or.inl b)
            · rw [yr_add, if_neg (by omega)]
end
