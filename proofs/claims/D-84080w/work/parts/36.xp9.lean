/-! LazyForms' reader: functions, comparisons, lets -/
section
variable {tp : Nat → Int} {n e tr pr i o N : Nat} {ml : Nat → List (List Int)} {mk : Nat → Int} {σ : Mem} {E : Nat → Rs}
theorem s50 (d D0 F : Nat) (hF : e ≤ F) (hE : HEx tp n e tr pr ml mk D0 o E) (hd : D0 ≤ d + 8) (hml : ∀ k, k < e → kdT tp n k ≠ 3 → ml (k + 1) = ml k) (h : XP tp n e tr pr ml i o N σ) (hk : kdT tp n i = 16) (hN : N ≤ 2 * i) (R T : zK)
    (hR : xRes tp n e tr pr ml mk i o N σ 0 R T (pLam (kdT tp n) F E i)) : zCallD (d + 9) 50 [7] σ R T := by
  have hL := h.lay
  have ht := h.1.2.2.2.2.2.1
  have hie := h.2.2.2.2.1
  have he := h.1.2.2.1
  have hi := h.lt (by rw [hk]; decide)
  have ib : i < 2147483647 := by omega
  have hin0 : (0 : Int) ≤ (i : Int) ∧ (i : Int) < ((2002 : Nat) : Int) := by omega
  have hX := h.next hi (hml i hi (by rw [hk]; decide))
  unfold pLam pTo at hR
  by_cases k2 : kdT tp n (i + 1) = 2
  · rw [if_pos k2] at hR
    simp only [c_50, b_50, ↓zwq, zpq, zgq, zhq, eq_sto, eq_kill, eq_zSto, eq_mset, eq_zGd, zsq, Int.reduceToNat, List.length_cons, List.length_nil, Nat.reduceAdd, Nat.reduceLT, Nat.reduceEqDiff, Int.reduceLT, Int.reduceLE, Int.reduceEq, Int.reduceNe, Int.reduceNeg, Int.reduceAdd, Int.reduceSub, Int.reduceMul, if_true, if_false, ite_true, ite_false, reduceIte, true_and, and_true, true_implies, forall_const, decide_eq_true_eq, decide_eq_false_iff_not, Bool.not_eq_true', Bool.not_eq_false', Bool.and_eq_true, Bool.or_eq_true, Bool.and_eq_false_iff, Bool.or_eq_false_iff, Bool.not_eq_true, Bool.not_eq_false, Bool.false_eq_true, Bool.true_eq_false, false_implies, implies_true, b2i_ne, b2i_eq, zB_b2i, not_true_eq_false, not_false_eq_true, List.drop_zero, List.drop_succ_cons, zIn_iff, zI8_iff, or_false, false_or, or_true, true_or, and_false, false_and, Decidable.not_not, laq hL, h.2.1, w32s ib, s36 (d + 7) hX, nlit, k2]
    refine xNames50 (d + 5) hX (by omega) hml _ _ R T (fun j τ hij hkn hkj x1 x2 hrow => ?_)
    have hje := x1.2.2.2.2.1
    have hp := pNmF (F := F) hij hkn hkj (by omega)
    have hij2 : i + 1 < j := by
      refine Nat.lt_of_le_of_ne hij fun z => hkj ?_
      rw [← z]; exact k2
    rw [hp] at hR
    dsimp only at hR
    by_cases k15 : kdT tp n j = 15
    · have hj := x1.lt (by rw [k15]; decide)
      have hX2 := x1.next hj (hml j hj (by rw [k15]; decide))
      rw [if_pos k15] at hR
      simp only [↓zwq, zpq, zgq, zhq, eq_sto, eq_kill, eq_zSto, eq_mset, eq_zGd, zsq, Int.reduceToNat, List.length_cons, List.length_nil, Nat.reduceAdd, Nat.reduceLT, Nat.reduceEqDiff, Int.reduceLT, Int.reduceLE, Int.reduceEq, Int.reduceNe, Int.reduceNeg, Int.reduceAdd, Int.reduceSub, Int.reduceMul, if_true, if_false, ite_true, ite_false, reduceIte, true_and, and_true, true_implies, forall_const, decide_eq_true_eq, decide_eq_false_iff_not, Bool.not_eq_true', Bool.not_eq_false', Bool.and_eq_true, Bool.or_eq_true, Bool.and_eq_false_iff, Bool.or_eq_false_iff, Bool.not_eq_true, Bool.not_eq_false, Bool.false_eq_true, Bool.true_eq_false, false_implies, implies_true, b2i_ne, b2i_eq, zB_b2i, not_true_eq_false, not_false_eq_true, List.drop_zero, List.drop_succ_cons, zIn_iff, zI8_iff, or_false, false_or, or_true, true_or, and_false, false_and, Decidable.not_not, s39 (d + 5) x1, nlit, k15]
      refine hE (d + 8) hd (j + 1) _ _ _ _ hX2 (by omega) ?_
      unfold pBd at hR
      have fr1 : XFr tr N σ (mset τ 7 4 ((j + 1 : Nat) : Int)) := ((XFr.at7 ht (Or.inl rfl)).tr x2 (Nat.le_refl _)).tr (XFr.at7 ht (Or.inl rfl)) (Nat.le_refl _)
      cases hq : E (j + 1) with
      | error x => rw [hq] at hR; exact fun υ hυ => hR υ (XErr.pre fr1 hυ)
      | ok x =>
        obtain ⟨t, k⟩ := x
        rw [hq] at hR
        intro m N2 υ y1 y2 y3 yl y4 y5 y6
        have hke := y1.2.2.2.2.1
        have hL2 := y1.lay
        have hN2 : N2 < 4096 := by omega
        have fr2 : XFr tr (N + (j - (i + 1))) τ υ := (XFr.at7 ht (Or.inl rfl)).tr y2 (Nat.le_refl _)
        have fr3 : XFr tr N σ υ := fr1.tr y2 (by omega)
        have hrow2 : Row (kdT tp n) (plT tp n) (xr υ tr) N (i + 1) (j - (i + 1)) := hrow.fr (fun f k a b => fr2.2 f k b)
        have hA := y1.addN 4 (plT tp n i) ((j - (i + 1) : Nat) : Int) (-1) (m : Int)
        have c0 : ¬ (j - (i + 1) = 0) := by omega
        simp only [↓zwq, zpq, zgq, zhq, eq_sto, eq_kill, eq_zSto, eq_mset, eq_zGd, zsq, Int.reduceToNat, List.length_cons, List.length_nil, Nat.reduceAdd, Nat.reduceLT, Nat.reduceEqDiff, Int.reduceLT, Int.reduceLE, Int.reduceEq, Int.reduceNe, Int.reduceNeg, Int.reduceAdd, Int.reduceSub, Int.reduceMul, if_true, if_false, ite_true, ite_false, reduceIte, true_and, and_true, true_implies, forall_const, decide_eq_true_eq, decide_eq_false_iff_not, Bool.not_eq_true', Bool.not_eq_false', Bool.and_eq_true, Bool.or_eq_true, Bool.and_eq_false_iff, Bool.or_eq_false_iff, Bool.not_eq_true, Bool.not_eq_false, Bool.false_eq_true, Bool.true_eq_false, false_implies, implies_true, b2i_ne, b2i_eq, zB_b2i, not_true_eq_false, not_false_eq_true, List.drop_zero, List.drop_succ_cons, zIn_iff, zI8_iff, or_false, false_or, or_true, true_or, and_false, false_and, Decidable.not_not, laq hL2, Int.toNat_natCast, y1.1.2.1 i hie, hin0, s46 (d + 6) y1 hN2, c0]
        have frB : XFr tr N2 υ (mset (addN tr N2 4 (plT tp n i) ((j - (i + 1) : Nat) : Int) (-1) (m : Int) υ) (tr + 8) N2 (N : Int)) := XFr.addN.setn (f := 7) rfl (by decide) (Nat.le_refl _)
        have xB : ∀ f, xr (mset (addN tr N2 4 (plT tp n i) ((j - (i + 1) : Nat) : Int) (-1) (m : Int) υ) (tr + 8) N2 (N : Int)) tr f N2 = if f = 7 then (N : Int) else xr (addN tr N2 4 (plT tp n i) ((j - (i + 1) : Nat) : Int) (-1) (m : Int) υ) tr f N2 := fun f => by
          rw [xr_set (f := 7) rfl (by decide)]; simp
        have hB : XP tp n e tr pr ml k o (N2 + 1) (mset (addN tr N2 4 (plT tp n i) ((j - (i + 1) : Nat) : Int) (-1) (m : Int) υ) (tr + 8) N2 (N : Int)) := hA.setn (f := 7) rfl (by decide)
        refine hR N2 (N2 + 1) _ hB (fr3.tr frB (by omega)) (by omega) (by omega) (Nat.lt_succ_self _) (by omega) ?_
        have ha : rX (kdT tp n) (plT tp n) (vlT tp n) mk (xr (mset (addN tr N2 4 (plT tp n i) ((j - (i + 1) : Nat) : Int) (-1) (m : Int) υ) (tr + 8) N2 (N : Int)) tr) N (N2 + 1) (nmL (i + 1) (j - (i + 1))) (N : Int) := by
          have z := rX_row (kd := kdT tp n) (pl := plT tp n) (vl := vlT tp n) (mk := mk) (lo := N) (hi := N2) _ N (i + 1) (Nat.le_refl _) (by omega) hrow2
          rw [if_neg c0] at z
          exact rX_up _ _ _ _ _ _ (Nat.le_refl _) (by omega) (fun f k a b => frB.2 f k b) z
        have hb : rX (kdT tp n) (plT tp n) (vlT tp n) mk (xr (mset (addN tr N2 4 (plT tp n i) ((j - (i + 1) : Nat) : Int) (-1) (m : Int) υ) (tr + 8) N2 (N : Int)) tr) N (N2 + 1) t (m : Int) := rX_up _ _ _ _ _ _ (by omega) (by omega) (fun f k a b => frB.2 f k b) y6
        refine ⟨N2, rfl, by omega, by omega, ?_, fun _ => ?_, fun z => absurd z (by decide), fun z => absurd z (by decide), fun z => absurd z (by decide), fun z => absurd z (by decide), fun _ => ⟨?_, ?_, ?_⟩, fun z => absurd z (by decide), fun z => absurd z (by decide), fun z => absurd z (by decide), fun z => absurd z (by decide), fun z => absurd z (by decide), fun z => absurd z (by decide)⟩
        · rw [xB, if_neg (by decide), xr_add]; simp
        · rw [xB, if_neg (by decide), xr_add]; simp
        · rw [xB, if_neg (by decide), xr_add, nmL_len]; simp
        · rw [xB, if_pos rfl]; exact ha
        · rw [xB, if_neg (by decide), xr_add]; simp; exact hb
    · rw [if_neg k15] at hR
      simp only [↓zwq, zpq, zgq, zhq, eq_sto, eq_kill, eq_zSto, eq_mset, eq_zGd, zsq, Int.reduceToNat, List.length_cons, List.length_nil, Nat.reduceAdd, Nat.reduceLT, Nat.reduceEqDiff, Int.reduceLT, Int.reduceLE, Int.reduceEq, Int.reduceNe, Int.reduceNeg, Int.reduceAdd, Int.reduceSub, Int.reduceMul, if_true, if_false, ite_true, ite_false, reduceIte, true_and, and_true, true_implies, forall_const, decide_eq_true_eq, decide_eq_false_iff_not, Bool.not_eq_true', Bool.not_eq_false', Bool.and_eq_true, Bool.or_eq_true, Bool.and_eq_false_iff, Bool.or_eq_false_iff, Bool.not_eq_true, Bool.not_eq_false, Bool.false_eq_true, Bool.true_eq_false, false_implies, implies_true, b2i_ne, b2i_eq, zB_b2i, not_true_eq_false, not_false_eq_true, List.drop_zero, List.drop_succ_cons, zIn_iff, zI8_iff, or_false, false_or, or_true, true_or, and_false, false_and, Decidable.not_not, s39 (d + 5) x1, nlit, k15]
      exact hR _ (XErr.pre ((XFr.at7 ht (Or.inl rfl)).tr x2 (Nat.le_refl _)) (XErr.of x1 1))
  · rw [if_neg k2] at hR
    simp only [c_50, b_50, ↓zwq, zpq, zgq, zhq, eq_sto, eq_kill, eq_zSto, eq_mset, eq_zGd, zsq, Int.reduceToNat, List.length_cons, List.length_nil, Nat.reduceAdd, Nat.reduceLT, Nat.reduceEqDiff, Int.reduceLT, Int.reduceLE, Int.reduceEq, Int.reduceNe, Int.reduceNeg, Int.reduceAdd, Int.reduceSub, Int.reduceMul, if_true, if_false, ite_true, ite_false, reduceIte, true_and, and_true, true_implies, forall_const, decide_eq_true_eq, decide_eq_false_iff_not, Bool.not_eq_true', Bool.not_eq_false', Bool.and_eq_true, Bool.or_eq_true, Bool.and_eq_false_iff, Bool.or_eq_false_iff, Bool.not_eq_true, Bool.not_eq_false, Bool.false_eq_true, Bool.true_eq_false, false_implies, implies_true, b2i_ne, b2i_eq, zB_b2i, not_true_eq_false, not_false_eq_true, List.drop_zero, List.drop_succ_cons, zIn_iff, zI8_iff, or_false, false_or, or_true, true_or, and_false, false_and, Decidable.not_not, laq hL, h.2.1, w32s ib, s36 (d + 7) hX, nlit, k2, s38 (d + 7) hX]
    exact hR _ (XErr.pre (XFr.at7 (k := 0) ht (Or.inl rfl)) (XErr.of hX 1))
theorem s55 (d D0 F : Nat) (hF : e ≤ F) (hM : HMk tp n e tr pr ml mk) (hE : HEx tp n e tr pr ml mk D0 o E) (hd : D0 ≤ d + 8) (hml : ∀ k, k < e → kdT tp n k ≠ 3 → ml (k + 1) = ml k) (h : XP tp n e tr pr ml i o N σ) (hN : N ≤ 2 * i) (R T : zK)
    (hR : xRes tp n e tr pr ml mk i o N σ 0 R T (pCmp (kdT tp n) F E i)) : zCallD (d + 13) 55 [7] σ R T := by
  have hL := h.lay
  have ht := h.1.2.2.2.2.2.1
  simp only [c_55, b_55, ↓zwq, zpq, zgq, zhq, eq_sto, eq_kill, eq_zSto, eq_mset, eq_zGd, zsq, Int.reduceToNat, List.length_cons, List.length_nil, Nat.reduceAdd, Nat.reduceLT, Nat.reduceEqDiff, Int.reduceLT, Int.reduceLE, Int.reduceEq, Int.reduceNe, Int.reduceNeg, Int.reduceAdd, Int.reduceSub, Int.reduceMul, if_true, if_false, ite_true, ite_false, reduceIte, true_and, and_true, true_implies, forall_const, decide_eq_true_eq, decide_eq_false_iff_not, Bool.not_eq_true', Bool.not_eq_false', Bool.and_eq_true, Bool.or_eq_true, Bool.and_eq_false_iff, Bool.or_eq_false_iff, Bool.not_eq_true, Bool.not_eq_false, Bool.false_eq_true, Bool.true_eq_false, false_implies, implies_true, b2i_ne, b2i_eq, zB_b2i, not_true_eq_false, not_false_eq_true, List.drop_zero, List.drop_succ_cons, zIn_iff, zI8_iff, or_false, false_or, or_true, true_or, and_false, false_and, Decidable.not_not, laq hL]
  refine s56 d D0 F hF hM hE hd hml h hN _ _ ?_
  unfold pCmp pBd at hR
  cases hq : pSum (kdT tp n) F E i with
  | error x => rw [hq] at hR; exact hR
  | ok x =>
    obtain ⟨t, j⟩ := x
    rw [hq] at hR
    intro m N1 τ x1 x2 x3 xl x4 x5 x6
    have hL1 := x1.lay
    have hje := x1.2.2.2.2.1
    have he := x1.1.2.2.1
    have jb : j < 2147483647 := by omega
    have hin : (0 : Int) ≤ (j : Int) ∧ (j : Int) < ((2002 : Nat) : Int) := by omega
    dsimp only at hR
    by_cases g : kdT tp n j = 21 ∨ kdT tp n j = 22 ∨ kdT tp n j = 23
    · rw [if_pos g] at hR
      have hj : j < e := x1.lt (by omega)
      have hX := x1.next hj (hml j hj (by omega))
      have key : xRes tp n e tr pr ml mk (j + 1) o N1 (mset τ 7 4 ((j + 1 : Nat) : Int)) 0 (fun v s => (Lay s ∧ s 7 2 = (tr : Int) ∧ s 11 j = plT tp n j ∧ s 10 j = (kdT tp n j : Int)) ∧ zCallD (d + 12) 30 [(tr : Int), 10, plT tp n j, (m : Int), v, (kdT tp n j : Int)] s R T) T (pSum (kdT tp n) F E (j + 1)) := by
        cases hq2 : pSum (kdT tp n) F E (j + 1) with
        | error x => rw [hq2] at hR; exact fun υ hυ => hR υ (XErr.pre x2 (XErr.pre (XFr.at7 (k := 0) ht (Or.inl rfl)) hυ))
        | ok x =>
          obtain ⟨b, k⟩ := x
          rw [hq2] at hR
          intro m1 N2 υ y1 y2 y3 yl y4 y5 y6
          have hke := y1.2.2.2.2.1
          have hN2 : N2 < 4096 := by omega
          refine ⟨⟨y1.lay, y1.1.2.2.2.1, (y1.1.2.1 j (Nat.le_of_lt hj)).2.1, (y1.1.2.1 j (Nat.le_of_lt hj)).1⟩, ?_⟩
          refine Eq.mpr (s30 (d + 11) y1.lay ht y1.2.2.2.1 hN2 _ _ _ _ _ _ _) ?_
          have frA : XFr tr N1 τ υ := (XFr.at7 ht (Or.inl rfl)).tr y2 (Nat.le_refl _)
          refine hR N2 (N2 + 1) _ (y1.addN _ _ _ _ _) ((x2.tr frA xl).tr XFr.addN (by omega)) (by omega) (by omega) (Nat.lt_succ_self _) (by omega) ?_
          refine ⟨N2, rfl, by omega, Nat.lt_succ_self _, ?_⟩
          simp only [xr_add]
          simp
          refine ⟨rX_up _ _ _ _ _ _ (Nat.le_refl _) (by omega) (fun f k a b => ?_) x6, rX_up _ _ _ _ _ _ (by omega) (by omega) (fun f k a b => ?_) y6⟩
          · rw [xr_add, if_neg (by omega)]; exact frA.2 f k b
          · rw [xr_add, if_neg (by omega)]
      have stp : ∀ Q : zK, (∀ v s, ((Lay s ∧ s 7 2 = (tr : Int) ∧ s 11 j = plT tp n j ∧ s 10 j = (kdT tp n j : Int)) ∧ zCallD (d + 12) 30 [(tr : Int), 10, plT tp n j, (m : Int), v, (kdT tp n j : Int)] s R T) → Q v s) → zCallD (d + 12) 56 [7] (mset τ 7 4 ((j + 1 : Nat) : Int)) Q T := by
        intro Q hQ
        exact zCallD_mono _ _ _ _ _ _ _ _ hQ (fun _ _ => id) (s56 d D0 F hF hM hE hd hml hX (by omega) _ T key)
      rcases g with g | g | g
      · simp only [↓zwq, zpq, zgq, zhq, eq_sto, eq_kill, eq_zSto, eq_mset, eq_zGd, zsq, Int.reduceToNat, List.length_cons, List.length_nil, Nat.reduceAdd, Nat.reduceLT, Nat.reduceEqDiff, Int.reduceLT, Int.reduceLE, Int.reduceEq, Int.reduceNe, Int.reduceNeg, Int.reduceAdd, Int.reduceSub, Int.reduceMul, if_true, if_false, ite_true, ite_false, reduceIte, true_and, and_true, true_implies, forall_const, decide_eq_true_eq, decide_eq_false_iff_not, Bool.not_eq_true', Bool.not_eq_false', Bool.and_eq_true, Bool.or_eq_true, Bool.and_eq_false_iff, Bool.or_eq_false_iff, Bool.not_eq_true, Bool.not_eq_false, Bool.false_eq_true, Bool.true_eq_false, false_implies, implies_true, b2i_ne, b2i_eq, zB_b2i, not_true_eq_false, not_false_eq_true, List.drop_zero, List.drop_succ_cons, zIn_iff, zI8_iff, or_false, false_or, or_true, true_or, and_false, false_and, Decidable.not_not, s36 (d + 11) x1, nlit, g, laq hL1, x1.2.1, w32s jb]
        refine stp _ ?_
        rintro v s ⟨⟨a1, a2, a3, a4⟩, a5⟩
        simp only [↓zwq, zpq, zgq, zhq, eq_sto, eq_kill, eq_zSto, eq_mset, eq_zGd, zsq, Int.reduceToNat, List.length_cons, List.length_nil, Nat.reduceAdd, Nat.reduceLT, Nat.reduceEqDiff, Int.reduceLT, Int.reduceLE, Int.reduceEq, Int.reduceNe, Int.reduceNeg, Int.reduceAdd, Int.reduceSub, Int.reduceMul, if_true, if_false, ite_true, ite_false, reduceIte, true_and, and_true, true_implies, forall_const, decide_eq_true_eq, decide_eq_false_iff_not, Bool.not_eq_true', Bool.not_eq_false', Bool.and_eq_true, Bool.or_eq_true, Bool.and_eq_false_iff, Bool.or_eq_false_iff, Bool.not_eq_true, Bool.not_eq_false, Bool.false_eq_true, Bool.true_eq_false, false_implies, implies_true, b2i_ne, b2i_eq, zB_b2i, not_true_eq_false, not_false_eq_true, List.drop_zero, List.drop_succ_cons, zIn_iff, zI8_iff, or_false, false_or, or_true, true_or, and_false, false_and, Decidable.not_not, laq a1, a2, a3, a4, hin, Int.toNat_natCast, trs ht]
        exact a5
      · simp only [↓zwq, zpq, zgq, zhq, eq_sto, eq_kill, eq_zSto, eq_mset, eq_zGd, zsq, Int.reduceToNat, List.length_cons, List.length_nil, Nat.reduceAdd, Nat.reduceLT, Nat.reduceEqDiff, Int.reduceLT, Int.reduceLE, Int.reduceEq, Int.reduceNe, Int.reduceNeg, Int.reduceAdd, Int.reduceSub, Int.reduceMul, if_true, if_false, ite_true, ite_false, reduceIte, true_and, and_true, true_implies, forall_const, decide_eq_true_eq, decide_eq_false_iff_not, Bool.not_eq_true', Bool.not_eq_false', Bool.and_eq_true, Bool.or_eq_true, Bool.and_eq_false_iff, Bool.or_eq_false_iff, Bool.not_eq_true, Bool.not_eq_false, Bool.false_eq_true, Bool.true_eq_false, false_implies, implies_true, b2i_ne, b2i_eq, zB_b2i, not_true_eq_false, not_false_eq_true, List.drop_zero, List.drop_succ_cons, zIn_iff, zI8_iff, or_false, false_or, or_true, true_or, and_false, false_and, Decidable.not_not, s36 (d + 11) x1, nlit, g, laq hL1, x1.2.1, w32s jb]
        refine stp _ ?_
        rintro v s ⟨⟨a1, a2, a3, a4⟩, a5⟩
        simp only [↓zwq, zpq, zgq, zhq, eq_sto, eq_kill, eq_zSto, eq_mset, eq_zGd, zsq, Int.reduceToNat, List.length_cons, List.length_nil, Nat.reduceAdd, Nat.reduceLT, Nat.reduceEqDiff, Int.reduceLT, Int.reduceLE, Int.reduceEq, Int.reduceNe, Int.reduceNeg, Int.reduceAdd, Int.reduceSub, Int.reduceMul, if_true, if_false, ite_true, ite_false, reduceIte, true_and, and_true, true_implies, forall_const, decide_eq_true_eq, decide_eq_false_iff_not, Bool.not_eq_true', Bool.not_eq_false', Bool.and_eq_true, Bool.or_eq_true, Bool.and_eq_false_iff, Bool.or_eq_false_iff, Bool.not_eq_true, Bool.not_eq_false, Bool.false_eq_true, Bool.true_eq_false, false_implies, implies_true, b2i_ne, b2i_eq, zB_b2i, not_true_eq_false, not_false_eq_true, List.drop_zero, List.drop_succ_cons, zIn_iff, zI8_iff, or_false, false_or, or_true, true_or, and_false, false_and, Decidable.not_not, laq a1, a2, a3, a4, hin, Int.toNat_natCast, trs ht]
        exact a5
      · simp only [↓zwq, zpq, zgq, zhq, eq_sto, eq_kill, eq_zSto, eq_mset, eq_zGd, zsq, Int.reduceToNat, List.length_cons, List.length_nil, Nat.reduceAdd, Nat.reduceLT, Nat.reduceEqDiff, Int.reduceLT, Int.reduceLE, Int.reduceEq, Int.reduceNe, Int.reduceNeg, Int.reduceAdd, Int.reduceSub, Int.reduceMul, if_true, if_false, ite_true, ite_false, reduceIte, true_and, and_true, true_implies, forall_const, decide_eq_true_eq, decide_eq_false_iff_not, Bool.not_eq_true', Bool.not_eq_false', Bool.and_eq_true, Bool.or_eq_true, Bool.and_eq_false_iff, Bool.or_eq_false_iff, Bool.not_eq_true, Bool.not_eq_false, Bool.false_eq_true, Bool.true_eq_false, false_implies, implies_true, b2i_ne, b2i_eq, zB_b2i, not_true_eq_false, not_false_eq_true, List.drop_zero, List.drop_succ_cons, zIn_iff, zI8_iff, or_false, false_or, or_true, true_or, and_false, false_and, Decidable.not_not, s36 (d + 11) x1, nlit, g, laq hL1, x1.2.1, w32s jb]
        refine stp _ ?_
        rintro v s ⟨⟨a1, a2, a3, a4⟩, a5⟩
        simp only [↓zwq, zpq, zgq, zhq, eq_sto, eq_kill, eq_zSto, eq_mset, eq_zGd, zsq, Int.reduceToNat, List.length_cons, List.length_nil, Nat.reduceAdd, Nat.reduceLT, Nat.reduceEqDiff, Int.reduceLT, Int.reduceLE, Int.reduceEq, Int.reduceNe, Int.reduceNeg, Int.reduceAdd, Int.reduceSub, Int.reduceMul, if_true, if_false, ite_true, ite_false, reduceIte, true_and, and_true, true_implies, forall_const, decide_eq_true_eq, decide_eq_false_iff_not, Bool.not_eq_true', Bool.not_eq_false', Bool.and_eq_true, Bool.or_eq_true, Bool.and_eq_false_iff, Bool.or_eq_false_iff, Bool.not_eq_true, Bool.not_eq_false, Bool.false_eq_true, Bool.true_eq_false, false_implies, implies_true, b2i_ne, b2i_eq, zB_b2i, not_true_eq_false, not_false_eq_true, List.drop_zero, List.drop_succ_cons, zIn_iff, zI8_iff, or_false, false_or, or_true, true_or, and_false, false_and, Decidable.not_not, laq a1, a2, a3, a4, hin, Int.toNat_natCast, trs ht]
        exact a5
    · rw [if_neg g] at hR
      have g1 : ¬ kdT tp n j = 21 := fun z => g (Or.inl z)
      have g2 : ¬ kdT tp n j = 22 := fun z => g (Or.inr (Or.inl z))
      have g3 : ¬ kdT tp n j = 23 := fun z => g (Or.inr (Or.inr z))
      simp only [↓zwq, zpq, zgq, zhq, eq_sto, eq_kill, eq_zSto, eq_mset, eq_zGd, zsq, Int.reduceToNat, List.length_cons, List.length_nil, Nat.reduceAdd, Nat.reduceLT, Nat.reduceEqDiff, Int.reduceLT, Int.reduceLE, Int.reduceEq, Int.reduceNe, Int.reduceNeg, Int.reduceAdd, Int.reduceSub, Int.reduceMul, if_true, if_false, ite_true, ite_false, reduceIte, true_and, and_true, true_implies, forall_const, decide_eq_true_eq, decide_eq_false_iff_not, Bool.not_eq_true', Bool.not_eq_false', Bool.and_eq_true, Bool.or_eq_true, Bool.and_eq_false_iff, Bool.or_eq_false_iff, Bool.not_eq_true, Bool.not_eq_false, Bool.false_eq_true, Bool.true_eq_false, false_implies, implies_true, b2i_ne, b2i_eq, zB_b2i, not_true_eq_false, not_false_eq_true, List.drop_zero, List.drop_succ_cons, zIn_iff, zI8_iff, or_false, false_or, or_true, true_or, and_false, false_and, Decidable.not_not, s36 (d + 11) x1, nlit, g1, g2, g3]
      exact hR m N1 τ x1 x2 x3 xl x4 x5 x6
end
