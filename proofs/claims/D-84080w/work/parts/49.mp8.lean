/-! LazyFormsModel's reader: alts -/
section
variable {tp : Nat → Int} {n e A i o N : Nat} {σ : Mem} {E : Nat → Rs}
theorem m161 (d D0 F : Nat) (hF : e ≤ F) (hE : HMx tp n e A D0 o E) (hd : D0 ≤ d + 8) (h : MP tp n e A i o N σ) (hN : N < 2 * i) (R T : zK)
    (hR : mResE tp n e A i o N σ R T (pAlt (kdT tp n) F E i)) : zCallD (d + 9) 161 [90] σ R T := by
  have hL := h.lay
  have hie := h.2.2.2.2
  have he := h.1.2.2.1
  have hA := h.1.1.2.2.1
  have ib : i < 2147483647 := by omega
  have hN4 : N < 4000 := by omega
  have hin0 : (0 : Int) ≤ (i : Int) ∧ (i : Int) < ((2010 : Nat) : Int) := by omega
  have hinN : (0 : Int) ≤ ((4000 * A + N : Nat) : Int) ∧ ((4000 * A + N : Nat) : Int) < ((16000 : Nat) : Int) := by omega
  have hX1 := h.addM 9 (-1) (-1) (-1) (ppT tp n A i)
  have f1 : YFr A N σ (addM A N 9 (-1) (-1) (-1) (ppT tp n A i) σ) := YFr.addM hN4
  have sl := slit tp n i
  have kl := klit tp n i
  have q := fun f => yr_add (A := A) (N := N) (k := 9) (a := -1) (b := -1) (c := -1) (p := ppT tp n A i) (σ := σ) f (4000 * A + N)
  -- the state behind cost[n] = c
  have hXc : ∀ c : Int, MP tp n e A i o (N + 1) (mset (addM A N 9 (-1) (-1) (-1) (ppT tp n A i) σ) 104 (4000 * A + N) c) := fun c => hX1.setn (f := 7) rfl (by decide)
  have fc : ∀ c : Int, YFr A N σ (mset (addM A N 9 (-1) (-1) (-1) (ppT tp n A i) σ) 104 (4000 * A + N) c) := fun c => f1.setn (f := 7) rfl (by decide) (Nat.le_refl _) (by omega)
  have qc : ∀ (c : Int) f, yr (mset (addM A N 9 (-1) (-1) (-1) (ppT tp n A i) σ) 104 (4000 * A + N) c) f (4000 * A + N) = if f = 7 then c else yr (addM A N 9 (-1) (-1) (-1) (ppT tp n A i) σ) f (4000 * A + N) := fun c f => by rw [yr_set (f := 7) rfl (by decide)]; simp
  generalize hT : (sSeq (sCall 148 [(eP (pL 3 0)), (eP (pI 256))])
  (sSeq (sSe 1 (eP (p1 (oGf 6 14 3) (pL 3 0))) (eP (pL 1 2)) (eCall 156 [(eP (pL 3 0))]))
  (sRet 1 (eP (pL 1 2))))) = TL
  unfold pAlt pPat at hR
  by_cases k3 : kdT tp n i = 3
  · have hi := h.lt (by rw [k3]; decide)
    rw [if_pos k3] at hR
    -- one[n], next token
    have hY : MP tp n e A (i + 1) o (N + 1) (mset (mset (mset (addM A N 9 (-1) (-1) (-1) (ppT tp n A i) σ) 104 (4000 * A + N) 1) 98 (4000 * A + N) (tvT tp n A i)) 90 6 ((i + 1 : Nat) : Int)) := ((hXc 1).setn (f := 1) rfl (by decide)).next hi
    have fY : YFr A N σ (mset (mset (mset (addM A N 9 (-1) (-1) (-1) (ppT tp n A i) σ) 104 (4000 * A + N) 1) 98 (4000 * A + N) (tvT tp n A i)) 90 6 ((i + 1 : Nat) : Int)) := ((fc 1).setn (f := 1) rfl (by decide) (Nat.le_refl _) (by omega)).tr (YFr.at90 (Or.inl rfl)) (Nat.le_refl _)
    have qY : ∀ f, yr (mset (mset (mset (addM A N 9 (-1) (-1) (-1) (ppT tp n A i) σ) 104 (4000 * A + N) 1) 98 (4000 * A + N) (tvT tp n A i)) 90 6 ((i + 1 : Nat) : Int)) f (4000 * A + N) = if f = 1 then tvT tp n A i else if f = 7 then 1 else yr (addM A N 9 (-1) (-1) (-1) (ppT tp n A i) σ) f (4000 * A + N) := fun f => by
      rw [(YFr.at90 (A := A) (N := N + 1) (Or.inl rfl)).2 f _ (Or.inl (by omega)), yr_set (f := 1) rfl (by decide), qc]; simp
    simp only [c_161, b_161, hT, ↓zwq, zpq, zgq, zhq, eq_sto, eq_kill, eq_zSto, eq_mset, eq_zGd, zsq, Int.reduceToNat, List.length_cons, List.length_nil, Nat.reduceAdd, Nat.reduceLT, Nat.reduceEqDiff, Int.reduceLT, Int.reduceLE, Int.reduceEq, Int.reduceNe, Int.reduceNeg, Int.reduceAdd, Int.reduceSub, Int.reduceMul, if_true, if_false, ite_true, ite_false, reduceIte, true_and, and_true, true_implies, forall_const, decide_eq_true_eq, decide_eq_false_iff_not, Bool.not_eq_true', Bool.not_eq_false', Bool.and_eq_true, Bool.or_eq_true, Bool.and_eq_false_iff, Bool.or_eq_false_iff, Bool.not_eq_true, Bool.not_eq_false, Bool.false_eq_true, Bool.true_eq_false, false_implies, implies_true, b2i_ne, b2i_eq, zB_b2i, not_true_eq_false, not_false_eq_true, List.drop_zero, List.drop_succ_cons, zIn_iff, zI8_iff, or_false, false_or, or_true, true_or, and_false, false_and, Decidable.not_not, laq hL, h.2.1, s144 (d + 7) h hN4 hie, adq, hin0, hinN, Int.toNat_natCast, (h.1.2.1 i hie).1, kk_t kl.2.2.2.1 k3, (h.1.2.1 i hie).2.2 (show 2 ≤ kdT tp n i by omega), w32s ib]
    refine s150 (d + 5) hY (by omega) (by omega) true _ _ (fun j τ hij hkn hkj x1 x2 hrow => ?_)
    have hje := x1.2.2.2.2
    have hp : pNm (kdT tp n) true F (i + 1) = (nmL (i + 1) (j - (i + 1)), j) := pNm_eq F (i + 1) j hij (fun k a b => hkn k a b) hkj (by omega)
    rw [hp, pBd_ok] at hR
    try simp only [↓zwq, zpq, zgq, zhq, eq_sto, eq_kill, eq_zSto, eq_mset, eq_zGd, zsq, Int.reduceToNat, List.length_cons, List.length_nil, Nat.reduceAdd, Nat.reduceLT, Nat.reduceEqDiff, Int.reduceLT, Int.reduceLE, Int.reduceEq, Int.reduceNe, Int.reduceNeg, Int.reduceAdd, Int.reduceSub, Int.reduceMul, if_true, if_false, ite_true, ite_false, reduceIte, true_and, and_true, true_implies, forall_const, decide_eq_true_eq, decide_eq_false_iff_not, Bool.not_eq_true', Bool.not_eq_false', Bool.and_eq_true, Bool.or_eq_true, Bool.and_eq_false_iff, Bool.or_eq_false_iff, Bool.not_eq_true, Bool.not_eq_false, Bool.false_eq_true, Bool.true_eq_false, false_implies, implies_true, b2i_ne, b2i_eq, zB_b2i, not_true_eq_false, not_false_eq_true, List.drop_zero, List.drop_succ_cons, zIn_iff, zI8_iff, or_false, false_or, or_true, true_or, and_false, false_and, Decidable.not_not, hinN, Int.toNat_natCast]
    have x0 : ∀ f, yr τ f (4000 * A + N) = if f = 1 then tvT tp n A i else if f = 7 then 1 else yr (addM A N 9 (-1) (-1) (-1) (ppT tp n A i) σ) f (4000 * A + N) := fun f => by rw [x2.2 f _ (Or.inl (by omega)), qY]
    have vs : ∀ f g, yr (mset τ 99 (4000 * A + N) (if j - (i + 1) = 0 then -1 else ((4000 * A + (N + 1) : Nat) : Int))) f g = if f = 2 ∧ g = 4000 * A + N then (if j - (i + 1) = 0 then -1 else ((4000 * A + (N + 1) : Nat) : Int)) else yr τ f g := fun f g => by rw [yr_set (f := 2) rfl (by decide)]
    have g1 : MP tp n e A j o (N + 1 + (j - (i + 1))) (mset τ 99 (4000 * A + N) (if j - (i + 1) = 0 then -1 else ((4000 * A + (N + 1) : Nat) : Int))) := x1.setn (f := 2) rfl (by decide)
    have g2 : YFr A N σ (mset τ 99 (4000 * A + N) (if j - (i + 1) = 0 then -1 else ((4000 * A + (N + 1) : Nat) : Int))) := (fY.tr x2 (by omega)).setn (f := 2) rfl (by decide) (Nat.le_refl _) (by omega)
    have vf : ∀ f, f ≠ 2 → yr (mset τ 99 (4000 * A + N) (if j - (i + 1) = 0 then -1 else ((4000 * A + (N + 1) : Nat) : Int))) f (4000 * A + N) = if f = 1 then tvT tp n A i else if f = 7 then 1 else yr (addM A N 9 (-1) (-1) (-1) (ppT tp n A i) σ) f (4000 * A + N) := fun f hf => by rw [vs, if_neg (fun z => hf z.1)]; exact x0 f
    have v2 : yr (mset τ 99 (4000 * A + N) (if j - (i + 1) = 0 then -1 else ((4000 * A + (N + 1) : Nat) : Int))) 2 (4000 * A + N) = (if j - (i + 1) = 0 then -1 else ((4000 * A + (N + 1) : Nat) : Int)) := (vs 2 (4000 * A + N)).trans (if_pos ⟨rfl, rfl⟩)
    have nl : rM (kdT tp n) (tvT tp n A) (ppT tp n A) (yr (mset τ 99 (4000 * A + N) (if j - (i + 1) = 0 then -1 else ((4000 * A + (N + 1) : Nat) : Int)))) (4000 * A + N + 1) (4000 * A + (N + 1 + (j - (i + 1)))) (nmL (i + 1) (j - (i + 1))) (if j - (i + 1) = 0 then -1 else ((4000 * A + (N + 1) : Nat) : Int)) := by
      have y := rM_row (kd := kdT tp n) (tv := tvT tp n A) (pl := ppT tp n A) (lo := 4000 * A + N + 1) (hi := 4000 * A + N + 1 + (j - (i + 1))) _ _ _ (Nat.le_refl _) (Nat.le_refl _) hrow
      exact rM_up _ _ _ _ _ _ (Nat.le_refl _) (by omega) (fun f k a b => (vs f k).trans (if_neg (by omega))) y
    generalize mset τ 99 (4000 * A + N) (if j - (i + 1) = 0 then -1 else ((4000 * A + (N + 1) : Nat) : Int)) = ω at g1 g2 vf v2 nl ⊢
    have z := mAltT (τ := ω) d D0 hE hd hie (by omega) g1 g2 (by omega) (by omega) hN (nmL (i + 1) (j - (i + 1))) (mKd (kdT tp n i) : Int) (by rw [vf 0 (by decide), q]; simp) (by rw [vf 5 (by decide), q]; simp) (by rw [vf 4 (by decide), q]; simp) (by rw [vf 7 (by decide), if_pos k3]; simp) ⟨fun _ => by rw [vf 1 (by decide)]; simp, fun z => absurd (k3.symm.trans z) (by decide), fun z => absurd (k3.symm.trans z) (by decide)⟩ (by rw [v2]; exact nl) R T hR
    rw [hT] at z
    exact z
  rw [if_neg k3] at hR
  by_cases k22 : kdT tp n i = 2 ∨ kdT tp n i = 24
  · have hi := h.lt (by omega)
    rw [if_neg (by omega), if_neg (by omega), if_pos k22, pBd_ok] at hR
    have hc : ((if kdT tp n i = 2 then tvT tp n A i else -1) : Int) = (if kdT tp n i = 24 then -1 else tvT tp n A i) := by
      rcases k22 with g | g
      · rw [if_pos g, if_neg (by omega)]
      · rw [if_neg (by omega), if_pos g]
    have hN5 : N + 1 < 4000 := by omega
    have hc3 := hXc 3
    have hZ := hc3.addM 10 (if kdT tp n i = 24 then -1 else tvT tp n A i) (-1) (-1) (ppT tp n A i)
    have fZ : YFr A N σ (addM A (N + 1) 10 (if kdT tp n i = 24 then -1 else tvT tp n A i) (-1) (-1) (ppT tp n A i) (mset (addM A N 9 (-1) (-1) (-1) (ppT tp n A i) σ) 104 (4000 * A + N) 3)) := (fc 3).tr (YFr.addM hN5) (by omega)
    have hW : MP tp n e A (i + 1) o (N + 1 + 1) (mset (mset (addM A (N + 1) 10 (if kdT tp n i = 24 then -1 else tvT tp n A i) (-1) (-1) (ppT tp n A i) (mset (addM A N 9 (-1) (-1) (-1) (ppT tp n A i) σ) 104 (4000 * A + N) 3)) 99 (4000 * A + N) ((4000 * A + (N + 1) : Nat) : Int)) 90 6 ((i + 1 : Nat) : Int)) := (hZ.setn (f := 2) rfl (by decide)).next hi
    have fW : YFr A N σ (mset (mset (addM A (N + 1) 10 (if kdT tp n i = 24 then -1 else tvT tp n A i) (-1) (-1) (ppT tp n A i) (mset (addM A N 9 (-1) (-1) (-1) (ppT tp n A i) σ) 104 (4000 * A + N) 3)) 99 (4000 * A + N) ((4000 * A + (N + 1) : Nat) : Int)) 90 6 ((i + 1 : Nat) : Int)) := (fZ.setn (f := 2) rfl (by decide) (Nat.le_refl _) (by omega)).tr (YFr.at90 (Or.inl rfl)) (Nat.le_refl _)
    have vW : ∀ f g, g < 4000 * A + (N + 2) → yr (mset (mset (addM A (N + 1) 10 (if kdT tp n i = 24 then -1 else tvT tp n A i) (-1) (-1) (ppT tp n A i) (mset (addM A N 9 (-1) (-1) (-1) (ppT tp n A i) σ) 104 (4000 * A + N) 3)) 99 (4000 * A + N) ((4000 * A + (N + 1) : Nat) : Int)) 90 6 ((i + 1 : Nat) : Int)) f g = if f = 2 ∧ g = 4000 * A + N then ((4000 * A + (N + 1) : Nat) : Int) else yr (addM A (N + 1) 10 (if kdT tp n i = 24 then -1 else tvT tp n A i) (-1) (-1) (ppT tp n A i) (mset (addM A N 9 (-1) (-1) (-1) (ppT tp n A i) σ) 104 (4000 * A + N) 3)) f g := fun f g hg => by
      rw [(YFr.at90 (A := A) (N := N + 2) (Or.inl rfl)).2 f _ (Or.inl hg), yr_set (f := 2) rfl (by decide)]
    have w0 : ∀ f, f ≠ 2 → yr (mset (mset (addM A (N + 1) 10 (if kdT tp n i = 24 then -1 else tvT tp n A i) (-1) (-1) (ppT tp n A i) (mset (addM A N 9 (-1) (-1) (-1) (ppT tp n A i) σ) 104 (4000 * A + N) 3)) 99 (4000 * A + N) ((4000 * A + (N + 1) : Nat) : Int)) 90 6 ((i + 1 : Nat) : Int)) f (4000 * A + N) = if f = 7 then 3 else yr (addM A N 9 (-1) (-1) (-1) (ppT tp n A i) σ) f (4000 * A + N) := fun f hf => by
      rw [vW f _ (by omega), if_neg (fun z => hf z.1), yr_add, if_neg (by omega), qc]
    have w1 : ∀ f, yr (mset (mset (addM A (N + 1) 10 (if kdT tp n i = 24 then -1 else tvT tp n A i) (-1) (-1) (ppT tp n A i) (mset (addM A N 9 (-1) (-1) (-1) (ppT tp n A i) σ) 104 (4000 * A + N) 3)) 99 (4000 * A + N) ((4000 * A + (N + 1) : Nat) : Int)) 90 6 ((i + 1 : Nat) : Int)) f (4000 * A + (N + 1)) = yr (addM A (N + 1) 10 (if kdT tp n i = 24 then -1 else tvT tp n A i) (-1) (-1) (ppT tp n A i) (mset (addM A N 9 (-1) (-1) (-1) (ppT tp n A i) σ) 104 (4000 * A + N) 3)) f (4000 * A + (N + 1)) := fun f => by
      rw [vW f _ (by omega), if_neg (by omega)]
    have row : RowM (kdT tp n) (tvT tp n A) (ppT tp n A) (yr (mset (mset (addM A (N + 1) 10 (if kdT tp n i = 24 then -1 else tvT tp n A i) (-1) (-1) (ppT tp n A i) (mset (addM A N 9 (-1) (-1) (-1) (ppT tp n A i) σ) 104 (4000 * A + N) 3)) 99 (4000 * A + N) ((4000 * A + (N + 1) : Nat) : Int)) 90 6 ((i + 1 : Nat) : Int))) (4000 * A + (N + 1)) i 1 := fun k hk => by
      cases (show k = 0 by omega)
      simp only [Nat.add_zero, w1, yr_add]
      simp
    have w2 : yr (mset (mset (addM A (N + 1) 10 (if kdT tp n i = 24 then -1 else tvT tp n A i) (-1) (-1) (ppT tp n A i) (mset (addM A N 9 (-1) (-1) (-1) (ppT tp n A i) σ) 104 (4000 * A + N) 3)) 99 (4000 * A + N) ((4000 * A + (N + 1) : Nat) : Int)) 90 6 ((i + 1 : Nat) : Int)) 2 (4000 * A + N) = ((4000 * A + (N + 1) : Nat) : Int) := (vW 2 (4000 * A + N) (by omega)).trans (if_pos ⟨rfl, rfl⟩)
    have nl := rM_row (kd := kdT tp n) (tv := tvT tp n A) (pl := ppT tp n A) (lo := 4000 * A + N + 1) (hi := 4000 * A + (N + 1 + 1)) 1 (4000 * A + (N + 1)) i (by omega) (by omega) row
    have fin : ∀ ω, mset (mset (addM A (N + 1) 10 (if kdT tp n i = 24 then -1 else tvT tp n A i) (-1) (-1) (ppT tp n A i) (mset (addM A N 9 (-1) (-1) (-1) (ppT tp n A i) σ) 104 (4000 * A + N) 3)) 99 (4000 * A + N) ((4000 * A + (N + 1) : Nat) : Int)) 90 6 ((i + 1 : Nat) : Int) = ω → TL.1.2 (zCallD (d + 8)) [(3, 90), (1, (i : Int)), (1, ((4000 * A + N : Nat) : Int)), (1, (mKd (kdT tp n i) : Int)), (0, 0), (0, 0)] ω zF zF zF R T := by
      intro ω hω
      rw [hω] at hW fW w0 w2 nl
      have z := mAltT (τ := ω) d D0 hE hd hie (Nat.lt_succ_self _) hW fW (by omega) (by omega) hN (.append (nd 9 i .nil .nil) .nil) (mKd (kdT tp n i) : Int) (by rw [w0 0 (by decide), q]; simp) (by rw [w0 5 (by decide), q]; simp) (by rw [w0 4 (by decide), q]; simp) (by rw [w0 7 (by decide), if_neg k3, if_pos k22]; simp) ⟨fun z => absurd z k3, fun z => by omega, fun z => by omega⟩ (by rw [w2]; exact nl) R T hR
      rw [hT] at z
      exact z
    by_cases g2 : kdT tp n i = 2
    · simp only [c_161, b_161, hT, ↓zwq, zpq, zgq, zhq, eq_sto, eq_kill, eq_zSto, eq_mset, eq_zGd, zsq, Int.reduceToNat, List.length_cons, List.length_nil, Nat.reduceAdd, Nat.reduceLT, Nat.reduceEqDiff, Int.reduceLT, Int.reduceLE, Int.reduceEq, Int.reduceNe, Int.reduceNeg, Int.reduceAdd, Int.reduceSub, Int.reduceMul, if_true, if_false, ite_true, ite_false, reduceIte, true_and, and_true, true_implies, forall_const, decide_eq_true_eq, decide_eq_false_iff_not, Bool.not_eq_true', Bool.not_eq_false', Bool.and_eq_true, Bool.or_eq_true, Bool.and_eq_false_iff, Bool.or_eq_false_iff, Bool.not_eq_true, Bool.not_eq_false, Bool.false_eq_true, Bool.true_eq_false, false_implies, implies_true, b2i_ne, b2i_eq, zB_b2i, not_true_eq_false, not_false_eq_true, List.drop_zero, List.drop_succ_cons, zIn_iff, zI8_iff, or_false, false_or, or_true, true_or, and_false, false_and, Decidable.not_not, laq hL, h.2.1, s144 (d + 7) h hN4 hie, adq, hin0, hinN, Int.toNat_natCast, (h.1.2.1 i hie).1, kk_f kl.2.2.2.1 k3, kk_t kl.2.2.1 g2, (h.1.2.1 i hie).2.2 (show 2 ≤ kdT tp n i by omega), s144 (d + 7) hc3 hN5 hie, w32s ib]
      refine fin _ ?_
      rw [if_neg (show ¬ kdT tp n i = 24 by omega)]
    · have g24 : kdT tp n i = 24 := k22.resolve_left g2
      simp only [c_161, b_161, hT, ↓zwq, zpq, zgq, zhq, eq_sto, eq_kill, eq_zSto, eq_mset, eq_zGd, zsq, Int.reduceToNat, List.length_cons, List.length_nil, Nat.reduceAdd, Nat.reduceLT, Nat.reduceEqDiff, Int.reduceLT, Int.reduceLE, Int.reduceEq, Int.reduceNe, Int.reduceNeg, Int.reduceAdd, Int.reduceSub, Int.reduceMul, if_true, if_false, ite_true, ite_false, reduceIte, true_and, and_true, true_implies, forall_const, decide_eq_true_eq, decide_eq_false_iff_not, Bool.not_eq_true', Bool.not_eq_false', Bool.and_eq_true, Bool.or_eq_true, Bool.and_eq_false_iff, Bool.or_eq_false_iff, Bool.not_eq_true, Bool.not_eq_false, Bool.false_eq_true, Bool.true_eq_false, false_implies, implies_true, b2i_ne, b2i_eq, zB_b2i, not_true_eq_false, not_false_eq_true, List.drop_zero, List.drop_succ_cons, zIn_iff, zI8_iff, or_false, false_or, or_true, true_or, and_false, false_and, Decidable.not_not, laq hL, h.2.1, s144 (d + 7) h hN4 hie, adq, hin0, hinN, Int.toNat_natCast, (h.1.2.1 i hie).1, kk_f kl.2.2.2.1 k3, kk_f kl.2.2.1 g2, s146 (d + 7) hX1, sg_t sl.2.2.2.2.2.2.2.2.2.2.2.2.2.2.2 g24, s144 (d + 7) hc3 hN5 hie, w32s ib]
      refine fin _ ?_
      rw [if_pos g24]
  have k2 : ¬ kdT tp n i = 2 := fun z => k22 (Or.inl z)
  have k24 : ¬ kdT tp n i = 24 := fun z => k22 (Or.inr z)
  have r7 : (if kdT tp n i = 3 then (1 : Int) else if kdT tp n i = 2 ∨ kdT tp n i = 24 then 3 else 2) = 2 := by rw [if_neg k3, if_neg k22]
  -- a number at j (behind a sign or not): what is left
  have num : ∀ (j : Nat) (v : Int) (ω : Mem), i < j + 1 → j + 1 ≤ e → (kdT tp n i = 4 → v = tvT tp n A i) → (kdT tp n i = 18 → v = -tvT tp n A (i + 1)) → mResE tp n e A i o N σ R T (pTo (kdT tp n) 15 (j + 1) (pBd (E (j + 1 + 1)) fun t k => .ok (nd 8 i .nil t, k))) → MP tp n e A (j + 1) o (N + 1) ω → YFr A N σ ω → (∀ f, f ≠ 1 → yr ω f (4000 * A + N) = if f = 7 then 2 else yr (addM A N 9 (-1) (-1) (-1) (ppT tp n A i) σ) f (4000 * A + N)) → yr ω 1 (4000 * A + N) = v → TL.1.2 (zCallD (d + 8)) [(3, 90), (1, (i : Int)), (1, ((4000 * A + N : Nat) : Int)), (1, (mKd (kdT tp n i) : Int)), (0, 0), (0, 0)] ω zF zF zF R T := by
    intro j v ω hij hje h4 h18 hR g1 g2 vf v1
    have z := mAltT (τ := ω) d D0 hE hd hie hij g1 g2 (Nat.le_refl _) (by omega) hN .nil (mKd (kdT tp n i) : Int) (by rw [vf 0 (by decide), q]; simp) (by rw [vf 5 (by decide), q]; simp) (by rw [vf 4 (by decide), q]; simp) (by rw [vf 7 (by decide), r7]; simp) ⟨fun z => absurd z k3, fun z => by rw [v1]; exact h4 z, fun z => by rw [v1]; exact h18 z⟩ (by rw [vf 2 (by decide), q]; simp [rM]) R T hR
    rw [hT] at z
    exact z
  have zb1 : (1 : Int) = 0 ↔ False := by decide
  by_cases k18 : kdT tp n i = 18
  · rw [if_pos k18] at hR
    have hi := h.lt (by rw [k18]; decide)
    have hY := (hXc 2).next hi
    have fY : YFr A N σ (mset (mset (addM A N 9 (-1) (-1) (-1) (ppT tp n A i) σ) 104 (4000 * A + N) 2) 90 6 ((i + 1 : Nat) : Int)) := (fc 2).tr (YFr.at90 (Or.inl rfl)) (Nat.le_refl _)
    have hin1 : (0 : Int) ≤ ((i + 1 : Nat) : Int) ∧ ((i + 1 : Nat) : Int) < ((2010 : Nat) : Int) := by omega
    have ib1 : i + 1 < 2147483647 := by omega
    by_cases k4 : kdT tp n (i + 1) = 4
    · rw [pTo_y k4, pBd_ok] at hR
      have hi2 := hY.lt (by rw [k4]; decide)
      have hZ := hY.next hi2
      have vb : w32 (-tvT tp n A (i + 1)) = -tvT tp n A (i + 1) := by
        have e1 : tvT tp n A (i + 1) = numV tp n (plc tp n (i + 1)) (szT tp n (i + 1)) := by
          show (if 9 ≤ kdT tp n (i + 1) then _ else if kdT tp n (i + 1) = 4 then _ else _) = _
          rw [if_neg (by omega), if_pos k4]; rfl
        obtain ⟨t1, t2, t3⟩ := tok_num k4
        have nb := numV_bd (tp := tp) (n := n) (p := plc tp n (i + 1)) (m := szT tp n (i + 1)) (fun k hk => dEnd_all (p := plc tp n (i + 1)) (by omega) (by have : szT tp n (i + 1) = dEnd tp n (plc tp n (i + 1)) - plc tp n (i + 1) := t2; omega))
        have p9 := pow9 (m := szT tp n (i + 1)) t3
        rw [e1]
        exact w32_id (by omega) (by omega)
      have hV : MP tp n e A (i + 1 + 1) o (N + 1) (mset (mset (mset (mset (addM A N 9 (-1) (-1) (-1) (ppT tp n A i) σ) 104 (4000 * A + N) 2) 90 6 ((i + 1 : Nat) : Int)) 90 6 ((i + 1 + 1 : Nat) : Int)) 98 (4000 * A + N) (-tvT tp n A (i + 1))) := hZ.setn (f := 1) rfl (by decide)
      have fV : YFr A N σ (mset (mset (mset (mset (addM A N 9 (-1) (-1) (-1) (ppT tp n A i) σ) 104 (4000 * A + N) 2) 90 6 ((i + 1 : Nat) : Int)) 90 6 ((i + 1 + 1 : Nat) : Int)) 98 (4000 * A + N) (-tvT tp n A (i + 1))) := (fY.tr (YFr.at90 (Or.inl rfl)) (Nat.le_refl _)).setn (f := 1) rfl (by decide) (Nat.le_refl _) (by omega)
      have vV : ∀ f, yr (mset (mset (mset (mset (addM A N 9 (-1) (-1) (-1) (ppT tp n A i) σ) 104 (4000 * A + N) 2) 90 6 ((i + 1 : Nat) : Int)) 90 6 ((i + 1 + 1 : Nat) : Int)) 98 (4000 * A + N) (-tvT tp n A (i + 1))) f (4000 * A + N) = if f = 1 then -tvT tp n A (i + 1) else if f = 7 then 2 else yr (addM A N 9 (-1) (-1) (-1) (ppT tp n A i) σ) f (4000 * A + N) := fun f => by
        rw [yr_set (f := 1) rfl (by decide), (YFr.at90 (A := A) (N := N + 1) (Or.inl rfl)).2 f _ (Or.inl (by omega)), (YFr.at90 (A := A) (N := N + 1) (Or.inl rfl)).2 f _ (Or.inl (by omega)), qc]; simp
      simp only [c_161, b_161, hT, ↓zwq, zpq, zgq, zhq, eq_sto, eq_kill, eq_zSto, eq_mset, eq_zGd, zsq, Int.reduceToNat, List.length_cons, List.length_nil, Nat.reduceAdd, Nat.reduceLT, Nat.reduceEqDiff, Int.reduceLT, Int.reduceLE, Int.reduceEq, Int.reduceNe, Int.reduceNeg, Int.reduceAdd, Int.reduceSub, Int.reduceMul, if_true, if_false, ite_true, ite_false, reduceIte, true_and, and_true, true_implies, forall_const, decide_eq_true_eq, decide_eq_false_iff_not, Bool.not_eq_true', Bool.not_eq_false', Bool.and_eq_true, Bool.or_eq_true, Bool.and_eq_false_iff, Bool.or_eq_false_iff, Bool.not_eq_true, Bool.not_eq_false, Bool.false_eq_true, Bool.true_eq_false, false_implies, implies_true, b2i_ne, b2i_eq, zB_b2i, not_true_eq_false, not_false_eq_true, List.drop_zero, List.drop_succ_cons, zIn_iff, zI8_iff, or_false, false_or, or_true, true_or, and_false, false_and, Decidable.not_not, laq hL, h.2.1, s144 (d + 7) h hN4 hie, adq, hin0, hinN, Int.toNat_natCast, (h.1.2.1 i hie).1, kk_f kl.2.2.2.1 k3, kk_f kl.2.2.1 k2, s146 (d + 7) hX1, sg_f sl.2.2.2.2.2.2.2.2.2.2.2.2.2.2.2 k24, s147 (d + 6) (hXc 2), sg_t sl.2.2.2.2.2.2.2.2.2.1 k18, hin1, (h.1.2.1 (i + 1) hi).2.2 (show 2 ≤ kdT tp n (i + 1) by omega), s149 (d + 6) hY, kk_t (klit tp n (i + 1)).2.2.2.2.1 k4, vb]
      refine num (i + 1) _ _ (by omega) hi2 (fun z => absurd (k18.symm.trans z) (by decide)) (fun _ => rfl) hR hV fV (fun f hf => ?_) ?_
      · rw [vV, if_neg hf]
      · rw [vV, if_pos rfl]
    · rw [pTo_n k4, pBd_er] at hR
      simp only [c_161, b_161, hT, ↓zwq, zpq, zgq, zhq, eq_sto, eq_kill, eq_zSto, eq_mset, eq_zGd, zsq, Int.reduceToNat, List.length_cons, List.length_nil, Nat.reduceAdd, Nat.reduceLT, Nat.reduceEqDiff, Int.reduceLT, Int.reduceLE, Int.reduceEq, Int.reduceNe, Int.reduceNeg, Int.reduceAdd, Int.reduceSub, Int.reduceMul, if_true, if_false, ite_true, ite_false, reduceIte, true_and, and_true, true_implies, forall_const, decide_eq_true_eq, decide_eq_false_iff_not, Bool.not_eq_true', Bool.not_eq_false', Bool.and_eq_true, Bool.or_eq_true, Bool.and_eq_false_iff, Bool.or_eq_false_iff, Bool.not_eq_true, Bool.not_eq_false, Bool.false_eq_true, Bool.true_eq_false, false_implies, implies_true, b2i_ne, b2i_eq, zB_b2i, not_true_eq_false, not_false_eq_true, List.drop_zero, List.drop_succ_cons, zIn_iff, zI8_iff, or_false, false_or, or_true, true_or, and_false, false_and, Decidable.not_not, laq hL, h.2.1, s144 (d + 7) h hN4 hie, adq, hin0, hinN, Int.toNat_natCast, (h.1.2.1 i hie).1, kk_f kl.2.2.2.1 k3, kk_f kl.2.2.1 k2, s146 (d + 7) hX1, sg_f sl.2.2.2.2.2.2.2.2.2.2.2.2.2.2.2 k24, s147 (d + 6) (hXc 2), sg_t sl.2.2.2.2.2.2.2.2.2.1 k18, hin1, s149 (d + 6) hY, kk_f (klit tp n (i + 1)).2.2.2.2.1 k4]
      exact hR _ (MErr.pre fY (MErr.of hY 1))
  rw [if_neg k18] at hR
  by_cases k4 : kdT tp n i = 4
  · rw [if_pos k4, pBd_ok] at hR
    have hi := h.lt (by rw [k4]; decide)
    have hY := (hXc 2).next hi
    have fY : YFr A N σ (mset (mset (addM A N 9 (-1) (-1) (-1) (ppT tp n A i) σ) 104 (4000 * A + N) 2) 90 6 ((i + 1 : Nat) : Int)) := (fc 2).tr (YFr.at90 (Or.inl rfl)) (Nat.le_refl _)
    have hV : MP tp n e A (i + 1) o (N + 1) (mset (mset (mset (addM A N 9 (-1) (-1) (-1) (ppT tp n A i) σ) 104 (4000 * A + N) 2) 90 6 ((i + 1 : Nat) : Int)) 98 (4000 * A + N) (tvT tp n A i)) := hY.setn (f := 1) rfl (by decide)
    have fV : YFr A N σ (mset (mset (mset (addM A N 9 (-1) (-1) (-1) (ppT tp n A i) σ) 104 (4000 * A + N) 2) 90 6 ((i + 1 : Nat) : Int)) 98 (4000 * A + N) (tvT tp n A i)) := fY.setn (f := 1) rfl (by decide) (Nat.le_refl _) (by omega)
    have vV : ∀ f, yr (mset (mset (mset (addM A N 9 (-1) (-1) (-1) (ppT tp n A i) σ) 104 (4000 * A + N) 2) 90 6 ((i + 1 : Nat) : Int)) 98 (4000 * A + N) (tvT tp n A i)) f (4000 * A + N) = if f = 1 then tvT tp n A i else if f = 7 then 2 else yr (addM A N 9 (-1) (-1) (-1) (ppT tp n A i) σ) f (4000 * A + N) := fun f => by
      rw [yr_set (f := 1) rfl (by decide), (YFr.at90 (A := A) (N := N + 1) (Or.inl rfl)).2 f _ (Or.inl (by omega)), qc]; simp
    simp only [c_161, b_161, hT, ↓zwq, zpq, zgq, zhq, eq_sto, eq_kill, eq_zSto, eq_mset, eq_zGd, zsq, Int.reduceToNat, List.length_cons, List.length_nil, Nat.reduceAdd, Nat.reduceLT, Nat.reduceEqDiff, Int.reduceLT, Int.reduceLE, Int.reduceEq, Int.reduceNe, Int.reduceNeg, Int.reduceAdd, Int.reduceSub, Int.reduceMul, if_true, if_false, ite_true, ite_false, reduceIte, true_and, and_true, true_implies, forall_const, decide_eq_true_eq, decide_eq_false_iff_not, Bool.not_eq_true', Bool.not_eq_false', Bool.and_eq_true, Bool.or_eq_true, Bool.and_eq_false_iff, Bool.or_eq_false_iff, Bool.not_eq_true, Bool.not_eq_false, Bool.false_eq_true, Bool.true_eq_false, false_implies, implies_true, b2i_ne, b2i_eq, zB_b2i, not_true_eq_false, not_false_eq_true, List.drop_zero, List.drop_succ_cons, zIn_iff, zI8_iff, or_false, false_or, or_true, true_or, and_false, false_and, Decidable.not_not, laq hL, h.2.1, s144 (d + 7) h hN4 hie, adq, hin0, hinN, Int.toNat_natCast, (h.1.2.1 i hie).1, kk_f kl.2.2.2.1 k3, kk_f kl.2.2.1 k2, s146 (d + 7) hX1, sg_f sl.2.2.2.2.2.2.2.2.2.2.2.2.2.2.2 k24, s147 (d + 6) (hXc 2), sg_f sl.2.2.2.2.2.2.2.2.2.1 k18, (h.1.2.1 i hie).2.2 (show 2 ≤ kdT tp n i by omega), s149 (d + 6) (hXc 2), kk_t kl.2.2.2.2.1 k4]
    refine num i _ _ (Nat.lt_succ_self _) hi (fun _ => rfl) (fun z => absurd z k18) hR hV fV (fun f hf => ?_) ?_
    · rw [vV, if_neg hf]
    · rw [vV, if_pos rfl]
  · rw [if_neg k4, if_neg k22, pBd_er] at hR
    simp only [c_161, b_161, hT, ↓zwq, zpq, zgq, zhq, eq_sto, eq_kill, eq_zSto, eq_mset, eq_zGd, zsq, Int.reduceToNat, List.length_cons, List.length_nil, Nat.reduceAdd, Nat.reduceLT, Nat.reduceEqDiff, Int.reduceLT, Int.reduceLE, Int.reduceEq, Int.reduceNe, Int.reduceNeg, Int.reduceAdd, Int.reduceSub, Int.reduceMul, if_true, if_false, ite_true, ite_false, reduceIte, true_and, and_true, true_implies, forall_const, decide_eq_true_eq, decide_eq_false_iff_not, Bool.not_eq_true', Bool.not_eq_false', Bool.and_eq_true, Bool.or_eq_true, Bool.and_eq_false_iff, Bool.or_eq_false_iff, Bool.not_eq_true, Bool.not_eq_false, Bool.false_eq_true, Bool.true_eq_false, false_implies, implies_true, b2i_ne, b2i_eq, zB_b2i, not_true_eq_false, not_false_eq_true, List.drop_zero, List.drop_succ_cons, zIn_iff, zI8_iff, or_false, false_or, or_true, true_or, and_false, false_and, Decidable.not_not, laq hL, h.2.1, s144 (d + 7) h hN4 hie, adq, hin0, hinN, Int.toNat_natCast, (h.1.2.1 i hie).1, kk_f kl.2.2.2.1 k3, kk_f kl.2.2.1 k2, s146 (d + 7) hX1, sg_f sl.2.2.2.2.2.2.2.2.2.2.2.2.2.2.2 k24, s147 (d + 6) (hXc 2), sg_f sl.2.2.2.2.2.2.2.2.2.1 k18, s149 (d + 6) (hXc 2), kk_f kl.2.2.2.2.1 k4]
    exact hR _ (MErr.pre (fc 2) (MErr.of (hXc 2) 1))
end
