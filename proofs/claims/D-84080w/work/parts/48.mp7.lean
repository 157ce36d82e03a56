/-! LazyFormsModel's reader: functions, alts -/
section
variable {tp : Nat → Int} {n e A i o N : Nat} {σ : Mem} {E : Nat → Rs}
theorem m157 (d D0 F : Nat) (hF : e ≤ F) (hE : HMx tp n e A D0 o E) (hd : D0 ≤ d + 8) (h : MP tp n e A (i + 1) o N σ) (hN : N ≤ 2 * i) (R T : zK)
    (hR : mRes tp n e A i o N σ 0 R T (pLam (kdT tp n) F E i)) : zCallD (d + 9) 157 [90, (i : Int)] σ R T := by
  have hL := h.lay
  have hie := h.2.2.2.2
  have he := h.1.2.2.1
  have hA := h.1.1.2.2.1
  have hin0 : (0 : Int) ≤ ((i + 1 : Nat) : Int) ∧ ((i + 1 : Nat) : Int) < ((2010 : Nat) : Int) := by omega
  unfold pLam at hR
  by_cases k2 : kdT tp n (i + 1) = 2
  · rw [pTo_y k2] at hR
    have hi := h.lt (by rw [k2]; decide)
    simp only [c_157, b_157, ↓zwq, zpq, zgq, zhq, eq_sto, eq_kill, eq_zSto, eq_mset, eq_zGd, zsq, Int.reduceToNat, List.length_cons, List.length_nil, Nat.reduceAdd, Nat.reduceLT, Nat.reduceEqDiff, Int.reduceLT, Int.reduceLE, Int.reduceEq, Int.reduceNe, Int.reduceNeg, Int.reduceAdd, Int.reduceSub, Int.reduceMul, if_true, if_false, ite_true, ite_false, reduceIte, true_and, and_true, true_implies, forall_const, decide_eq_true_eq, decide_eq_false_iff_not, Bool.not_eq_true', Bool.not_eq_false', Bool.and_eq_true, Bool.or_eq_true, Bool.and_eq_false_iff, Bool.or_eq_false_iff, Bool.not_eq_true, Bool.not_eq_false, Bool.false_eq_true, Bool.true_eq_false, false_implies, implies_true, b2i_ne, b2i_eq, zB_b2i, not_true_eq_false, not_false_eq_true, List.drop_zero, List.drop_succ_cons, zIn_iff, zI8_iff, or_false, false_or, or_true, true_or, and_false, false_and, Decidable.not_not, laq hL, h.2.1, hin0, Int.toNat_natCast, (h.1.2.1 (i + 1) hie).1, kk_t (klit tp n (i + 1)).2.2.1 k2]
    refine s150 (d + 5) h (by omega) (by omega) false _ _ (fun j τ hij hkn hkj x1 x2 hrow => ?_)
    have hje := x1.2.2.2.2
    have hkn' : ∀ k, i + 1 ≤ k → k < j → kdT tp n k = 2 := fun k a b => (hkn k a b).resolve_right (fun z => absurd z.1 (by decide))
    have hkj' : kdT tp n j ≠ 2 := fun z => hkj (Or.inl z)
    have hp := pNmF (F := F) hij hkn' hkj' (by omega)
    have hij2 : i + 1 < j := by
      refine Nat.lt_of_le_of_ne hij fun z => hkj' ?_
      rw [← z]; exact k2
    rw [hp] at hR
    dsimp only at hR
    have c0 : ¬ (j - (i + 1) = 0) := by omega
    have hN1 : N + (j - (i + 1)) < 4000 := by omega
    have hX1 := x1.addM 3 ((4000 * A + N : Nat) : Int) (-1) (-1) (ppT tp n A i)
    have f1 : YFr A N σ (addM A (N + (j - (i + 1))) 3 ((4000 * A + N : Nat) : Int) (-1) (-1) (ppT tp n A i) τ) := x2.tr (YFr.addM hN1) (by omega)
    have hinM : (0 : Int) ≤ ((4000 * A + (N + (j - (i + 1))) : Nat) : Int) ∧ ((4000 * A + (N + (j - (i + 1))) : Nat) : Int) < ((16000 : Nat) : Int) := by omega
    simp only [↓zwq, zpq, zgq, zhq, eq_sto, eq_kill, eq_zSto, eq_mset, eq_zGd, zsq, Int.reduceToNat, List.length_cons, List.length_nil, Nat.reduceAdd, Nat.reduceLT, Nat.reduceEqDiff, Int.reduceLT, Int.reduceLE, Int.reduceEq, Int.reduceNe, Int.reduceNeg, Int.reduceAdd, Int.reduceSub, Int.reduceMul, if_true, if_false, ite_true, ite_false, reduceIte, true_and, and_true, true_implies, forall_const, decide_eq_true_eq, decide_eq_false_iff_not, Bool.not_eq_true', Bool.not_eq_false', Bool.and_eq_true, Bool.or_eq_true, Bool.and_eq_false_iff, Bool.or_eq_false_iff, Bool.not_eq_true, Bool.not_eq_false, Bool.false_eq_true, Bool.true_eq_false, false_implies, implies_true, b2i_ne, b2i_eq, zB_b2i, not_true_eq_false, not_false_eq_true, List.drop_zero, List.drop_succ_cons, zIn_iff, zI8_iff, or_false, false_or, or_true, true_or, and_false, false_and, Decidable.not_not, c0, s144 (d + 7) x1 hN1 (show i ≤ e by omega)]
    by_cases k15 : kdT tp n j = 15
    · have hj := hX1.lt (by rw [k15]; decide)
      have hX2 := hX1.next hj
      rw [pTo_y k15] at hR
      have fy : YFr A (N + (j - (i + 1)) + 1) (addM A (N + (j - (i + 1))) 3 ((4000 * A + N : Nat) : Int) (-1) (-1) (ppT tp n A i) τ) (mset (addM A (N + (j - (i + 1))) 3 ((4000 * A + N : Nat) : Int) (-1) (-1) (ppT tp n A i) τ) 90 6 ((j + 1 : Nat) : Int)) := YFr.at90 (Or.inl rfl)
      simp only [↓zwq, zpq, zgq, zhq, eq_sto, eq_kill, eq_zSto, eq_mset, eq_zGd, zsq, Int.reduceToNat, List.length_cons, List.length_nil, Nat.reduceAdd, Nat.reduceLT, Nat.reduceEqDiff, Int.reduceLT, Int.reduceLE, Int.reduceEq, Int.reduceNe, Int.reduceNeg, Int.reduceAdd, Int.reduceSub, Int.reduceMul, if_true, if_false, ite_true, ite_false, reduceIte, true_and, and_true, true_implies, forall_const, decide_eq_true_eq, decide_eq_false_iff_not, Bool.not_eq_true', Bool.not_eq_false', Bool.and_eq_true, Bool.or_eq_true, Bool.and_eq_false_iff, Bool.or_eq_false_iff, Bool.not_eq_true, Bool.not_eq_false, Bool.false_eq_true, Bool.true_eq_false, false_implies, implies_true, b2i_ne, b2i_eq, zB_b2i, not_true_eq_false, not_false_eq_true, List.drop_zero, List.drop_succ_cons, zIn_iff, zI8_iff, or_false, false_or, or_true, true_or, and_false, false_and, Decidable.not_not, s148 (d + 5) hX1, sg_t (slit tp n j).2.2.2.2.2.2.1 k15, adq, laq x1.lay]
      refine hE (d + 8) hd (j + 1) _ _ _ _ hX2 (by omega) ?_
      cases hq : E (j + 1) with
      | error x => rw [hq, pBd_er] at hR; exact fun υ hυ => hR υ (MErr.pre f1 (MErr.pre fy hυ))
      | ok x =>
        obtain ⟨t, k⟩ := x
        rw [hq, pBd_ok] at hR
        intro m N2 υ y1 y2 y3 yl y4 y5 y6
        have hke := y1.2.2.2.2
        have hL2 := y1.lay
        have frU : YFr A (N + (j - (i + 1)) + 1) (addM A (N + (j - (i + 1))) 3 ((4000 * A + N : Nat) : Int) (-1) (-1) (ppT tp n A i) τ) υ := fy.tr y2 (Nat.le_refl _)
        simp only [↓zwq, zpq, zgq, zhq, eq_sto, eq_kill, eq_zSto, eq_mset, eq_zGd, zsq, Int.reduceToNat, List.length_cons, List.length_nil, Nat.reduceAdd, Nat.reduceLT, Nat.reduceEqDiff, Int.reduceLT, Int.reduceLE, Int.reduceEq, Int.reduceNe, Int.reduceNeg, Int.reduceAdd, Int.reduceSub, Int.reduceMul, if_true, if_false, ite_true, ite_false, reduceIte, true_and, and_true, true_implies, forall_const, decide_eq_true_eq, decide_eq_false_iff_not, Bool.not_eq_true', Bool.not_eq_false', Bool.and_eq_true, Bool.or_eq_true, Bool.and_eq_false_iff, Bool.or_eq_false_iff, Bool.not_eq_true, Bool.not_eq_false, Bool.false_eq_true, Bool.true_eq_false, false_implies, implies_true, b2i_ne, b2i_eq, zB_b2i, not_true_eq_false, not_false_eq_true, List.drop_zero, List.drop_succ_cons, zIn_iff, zI8_iff, or_false, false_or, or_true, true_or, and_false, false_and, Decidable.not_not, hinM, Int.toNat_natCast]
        have hB : MP tp n e A k o N2 (mset υ 99 (4000 * A + (N + (j - (i + 1)))) (m : Int)) := y1.setn (f := 2) rfl (by decide)
        have fB : YFr A N σ (mset υ 99 (4000 * A + (N + (j - (i + 1)))) (m : Int)) := (f1.tr frU (by omega)).setn (f := 2) rfl (by decide) (by omega) (by omega)
        have xe : ∀ f g, yr (mset υ 99 (4000 * A + (N + (j - (i + 1)))) (m : Int)) f g = if f = 2 ∧ g = 4000 * A + (N + (j - (i + 1))) then (m : Int) else yr υ f g := fun f g => by rw [yr_set (f := 2) rfl (by decide)]
        have xl : ∀ f g, g < 4000 * A + (N + (j - (i + 1))) → yr υ f g = yr τ f g := fun f g hg => by rw [frU.2 f g (Or.inl (by omega)), yr_add, if_neg (by omega)]
        have nl : rM (kdT tp n) (tvT tp n A) (ppT tp n A) (yr (mset υ 99 (4000 * A + (N + (j - (i + 1)))) (m : Int))) (4000 * A + N) (4000 * A + N2) (nmL (i + 1) (j - (i + 1))) ((4000 * A + N : Nat) : Int) := by
          have z := rM_row (kd := kdT tp n) (tv := tvT tp n A) (pl := ppT tp n A) (lo := 4000 * A + N) (hi := 4000 * A + N + (j - (i + 1))) _ _ _ (Nat.le_refl _) (Nat.le_refl _) hrow
          rw [if_neg c0] at z
          refine rM_up _ _ _ _ _ _ (Nat.le_refl _) (by omega) (fun f k a b => ?_) z
          rw [xe, if_neg (by omega), xl f k (by omega)]
        have bd : rM (kdT tp n) (tvT tp n A) (ppT tp n A) (yr (mset υ 99 (4000 * A + (N + (j - (i + 1)))) (m : Int))) (4000 * A + N) (4000 * A + N2) t (m : Int) := rM_up _ _ _ _ _ _ (by omega) (Nat.le_refl _) (fun f k a b => by rw [xe, if_neg (by omega)]) y6
        have v2 : yr (mset υ 99 (4000 * A + (N + (j - (i + 1)))) (m : Int)) 2 (4000 * A + (N + (j - (i + 1)))) = (m : Int) := by rw [xe, if_pos ⟨rfl, rfl⟩]
        have vf : ∀ f, f ≠ 2 → yr (mset υ 99 (4000 * A + (N + (j - (i + 1)))) (m : Int)) f (4000 * A + (N + (j - (i + 1)))) = yr (addM A (N + (j - (i + 1))) 3 ((4000 * A + N : Nat) : Int) (-1) (-1) (ppT tp n A i) τ) f (4000 * A + (N + (j - (i + 1)))) := fun f a => by
          rw [xe, if_neg (fun z => a z.1)]; exact frU.2 f _ (Or.inl (by omega))
        refine hR (4000 * A + (N + (j - (i + 1)))) N2 _ hB fB (by omega) (by omega) (by omega) (by omega) ?_
        refine ⟨4000 * A + (N + (j - (i + 1))), rfl, by omega, by omega, ?_, ?_, fun z => absurd z (by decide), fun z => absurd z (by decide), fun _ => ⟨?_, ?_⟩, fun z => absurd z (by decide), fun z => absurd z (by decide), fun z => absurd z (by decide), fun z => absurd z (by decide), fun z => absurd z (by decide)⟩
        · rw [vf 0 (by decide), yr_add]; simp [mNk]
        · rw [vf 5 (by decide), yr_add]; simp
        · rw [vf 1 (by decide), yr_add]; simp; exact nl
        · rw [v2]; exact bd
    · rw [pTo_n k15] at hR
      simp only [↓zwq, zpq, zgq, zhq, eq_sto, eq_kill, eq_zSto, eq_mset, eq_zGd, zsq, Int.reduceToNat, List.length_cons, List.length_nil, Nat.reduceAdd, Nat.reduceLT, Nat.reduceEqDiff, Int.reduceLT, Int.reduceLE, Int.reduceEq, Int.reduceNe, Int.reduceNeg, Int.reduceAdd, Int.reduceSub, Int.reduceMul, if_true, if_false, ite_true, ite_false, reduceIte, true_and, and_true, true_implies, forall_const, decide_eq_true_eq, decide_eq_false_iff_not, Bool.not_eq_true', Bool.not_eq_false', Bool.and_eq_true, Bool.or_eq_true, Bool.and_eq_false_iff, Bool.or_eq_false_iff, Bool.not_eq_true, Bool.not_eq_false, Bool.false_eq_true, Bool.true_eq_false, false_implies, implies_true, b2i_ne, b2i_eq, zB_b2i, not_true_eq_false, not_false_eq_true, List.drop_zero, List.drop_succ_cons, zIn_iff, zI8_iff, or_false, false_or, or_true, true_or, and_false, false_and, Decidable.not_not, s148 (d + 5) hX1, sg_f (slit tp n j).2.2.2.2.2.2.1 k15]
      exact hR _ (MErr.pre f1 (MErr.of hX1 1))
  · rw [pTo_n k2] at hR
    simp only [c_157, b_157, ↓zwq, zpq, zgq, zhq, eq_sto, eq_kill, eq_zSto, eq_mset, eq_zGd, zsq, Int.reduceToNat, List.length_cons, List.length_nil, Nat.reduceAdd, Nat.reduceLT, Nat.reduceEqDiff, Int.reduceLT, Int.reduceLE, Int.reduceEq, Int.reduceNe, Int.reduceNeg, Int.reduceAdd, Int.reduceSub, Int.reduceMul, if_true, if_false, ite_true, ite_false, reduceIte, true_and, and_true, true_implies, forall_const, decide_eq_true_eq, decide_eq_false_iff_not, Bool.not_eq_true', Bool.not_eq_false', Bool.and_eq_true, Bool.or_eq_true, Bool.and_eq_false_iff, Bool.or_eq_false_iff, Bool.not_eq_true, Bool.not_eq_false, Bool.false_eq_true, Bool.true_eq_false, false_implies, implies_true, b2i_ne, b2i_eq, zB_b2i, not_true_eq_false, not_false_eq_true, List.drop_zero, List.drop_succ_cons, zIn_iff, zI8_iff, or_false, false_or, or_true, true_or, and_false, false_and, Decidable.not_not, laq hL, h.2.1, hin0, Int.toNat_natCast, (h.1.2.1 (i + 1) hie).1, kk_f (klit tp n (i + 1)).2.2.1 k2, s145 (d + 7) h]
    exact hR _ (MErr.of h 1)
/-- an alt's end: -> and its expression -/
theorem mAltT (d D0 : Nat) (hE : HMx tp n e A D0 o E) (hd : D0 ≤ d + 8) {j N1 : Nat} {τ : Mem} (hie : i ≤ e) (hij : i < j) (h : MP tp n e A j o N1 τ) (f0 : YFr A N σ τ) (hl : N + 1 ≤ N1) (hb : N1 + 2 * i ≤ N + 2 * j) (hN : N < 2 * i) (nl : Fm) (c3 : Int)
    (r0 : yr τ 0 (4000 * A + N) = 9) (r5 : yr τ 5 (4000 * A + N) = ppT tp n A i) (r4 : yr τ 4 (4000 * A + N) = -1) (r7 : yr τ 7 (4000 * A + N) = (if kdT tp n i = 3 then 1 else if kdT tp n i = 2 ∨ kdT tp n i = 24 then 3 else 2))
    (r1 : (kdT tp n i = 3 → yr τ 1 (4000 * A + N) = tvT tp n A i) ∧ (kdT tp n i = 4 → yr τ 1 (4000 * A + N) = tvT tp n A i) ∧ (kdT tp n i = 18 → yr τ 1 (4000 * A + N) = -tvT tp n A (i + 1)))
    (r2 : rM (kdT tp n) (tvT tp n A) (ppT tp n A) (yr τ) (4000 * A + N + 1) (4000 * A + N1) nl (yr τ 2 (4000 * A + N))) (R T : zK)
    (hR : mResE tp n e A i o N σ R T (pTo (kdT tp n) 15 j (pBd (E (j + 1)) fun t k => .ok (nd 8 i nl t, k)))) :
    (sSeq (sCall 148 [(eP (pL 3 0)), (eP (pI 256))])
  (sSeq (sSe 1 (eP (p1 (oGf 6 14 3) (pL 3 0))) (eP (pL 1 2)) (eCall 156 [(eP (pL 3 0))]))
  (sRet 1 (eP (pL 1 2))))).1.2 (zCallD (d + 8)) [(3, 90), (1, (i : Int)), (1, ((4000 * A + N : Nat) : Int)), (1, c3), (0, 0), (0, 0)] τ zF zF zF R T := by
  have he := h.1.2.2.1
  have hA := h.1.1.2.2.1
  have hje := h.2.2.2.2
  have hinN : (0 : Int) ≤ ((4000 * A + N : Nat) : Int) ∧ ((4000 * A + N : Nat) : Int) < ((16000 : Nat) : Int) := by omega
  by_cases k15 : kdT tp n j = 15
  · rw [pTo_y k15] at hR
    have hj := h.lt (by rw [k15]; decide)
    have hX2 := h.next hj
    have fy : YFr A N1 τ (mset τ 90 6 ((j + 1 : Nat) : Int)) := YFr.at90 (Or.inl rfl)
    simp only [↓zwq, zpq, zgq, zhq, eq_sto, eq_kill, eq_zSto, eq_mset, eq_zGd, zsq, Int.reduceToNat, List.length_cons, List.length_nil, Nat.reduceAdd, Nat.reduceLT, Nat.reduceEqDiff, Int.reduceLT, Int.reduceLE, Int.reduceEq, Int.reduceNe, Int.reduceNeg, Int.reduceAdd, Int.reduceSub, Int.reduceMul, if_true, if_false, ite_true, ite_false, reduceIte, true_and, and_true, true_implies, forall_const, decide_eq_true_eq, decide_eq_false_iff_not, Bool.not_eq_true', Bool.not_eq_false', Bool.and_eq_true, Bool.or_eq_true, Bool.and_eq_false_iff, Bool.or_eq_false_iff, Bool.not_eq_true, Bool.not_eq_false, Bool.false_eq_true, Bool.true_eq_false, false_implies, implies_true, b2i_ne, b2i_eq, zB_b2i, not_true_eq_false, not_false_eq_true, List.drop_zero, List.drop_succ_cons, zIn_iff, zI8_iff, or_false, false_or, or_true, true_or, and_false, false_and, Decidable.not_not, s148 (d + 5) h, sg_t (slit tp n j).2.2.2.2.2.2.1 k15, laq h.lay]
    refine hE (d + 8) hd (j + 1) _ _ _ _ hX2 (by omega) ?_
    cases hq : E (j + 1) with
    | error x => rw [hq, pBd_er] at hR; exact fun υ hυ => hR υ (MErr.pre f0 (MErr.pre fy hυ))
    | ok x =>
      obtain ⟨t, k⟩ := x
      rw [hq, pBd_ok] at hR
      intro m N2 υ y1 y2 y3 yl y4 y5 y6
      have hke := y1.2.2.2.2
      have frU : YFr A N1 τ υ := fy.tr y2 (Nat.le_refl _)
      simp only [↓zwq, zpq, zgq, zhq, eq_sto, eq_kill, eq_zSto, eq_mset, eq_zGd, zsq, Int.reduceToNat, List.length_cons, List.length_nil, Nat.reduceAdd, Nat.reduceLT, Nat.reduceEqDiff, Int.reduceLT, Int.reduceLE, Int.reduceEq, Int.reduceNe, Int.reduceNeg, Int.reduceAdd, Int.reduceSub, Int.reduceMul, if_true, if_false, ite_true, ite_false, reduceIte, true_and, and_true, true_implies, forall_const, decide_eq_true_eq, decide_eq_false_iff_not, Bool.not_eq_true', Bool.not_eq_false', Bool.and_eq_true, Bool.or_eq_true, Bool.and_eq_false_iff, Bool.or_eq_false_iff, Bool.not_eq_true, Bool.not_eq_false, Bool.false_eq_true, Bool.true_eq_false, false_implies, implies_true, b2i_ne, b2i_eq, zB_b2i, not_true_eq_false, not_false_eq_true, List.drop_zero, List.drop_succ_cons, zIn_iff, zI8_iff, or_false, false_or, or_true, true_or, and_false, false_and, Decidable.not_not, hinN, Int.toNat_natCast]
      have hB : MP tp n e A k o N2 (mset υ 100 (4000 * A + N) (m : Int)) := y1.setn (f := 3) rfl (by decide)
      have fB : YFr A N σ (mset υ 100 (4000 * A + N) (m : Int)) := (f0.tr frU (by omega)).setn (f := 3) rfl (by decide) (Nat.le_refl _) (by omega)
      have xe : ∀ f g, yr (mset υ 100 (4000 * A + N) (m : Int)) f g = if f = 3 ∧ g = 4000 * A + N then (m : Int) else yr υ f g := fun f g => by rw [yr_set (f := 3) rfl (by decide)]
      have bd : rM (kdT tp n) (tvT tp n A) (ppT tp n A) (yr (mset υ 100 (4000 * A + N) (m : Int))) (4000 * A + N + 1) (4000 * A + N2) t (m : Int) := rM_up _ _ _ _ _ _ (by omega) (Nat.le_refl _) (fun f k a b => by rw [xe, if_neg (by omega)]) y6
      have nlr : rM (kdT tp n) (tvT tp n A) (ppT tp n A) (yr (mset υ 100 (4000 * A + N) (m : Int))) (4000 * A + N + 1) (4000 * A + N2) nl (yr τ 2 (4000 * A + N)) := rM_up _ _ _ _ _ _ (Nat.le_refl _) (by omega) (fun f k a b => by rw [xe, if_neg (by omega)]; exact frU.2 f k (Or.inl (by omega))) r2
      have v3 : yr (mset υ 100 (4000 * A + N) (m : Int)) 3 (4000 * A + N) = (m : Int) := by rw [xe, if_pos ⟨rfl, rfl⟩]
      have vf : ∀ f, f ≠ 3 → yr (mset υ 100 (4000 * A + N) (m : Int)) f (4000 * A + N) = yr τ f (4000 * A + N) := fun f a => by
        rw [xe, if_neg (fun z => a z.1)]; exact frU.2 f _ (Or.inl (by omega))
      refine hR (4000 * A + N) N2 _ hB fB (by omega) (Nat.le_refl _) (by omega) (by omega) ?_ (by unfold Is; rw [vf 4 (by decide)]; exact r4)
      refine ⟨4000 * A + N, rfl, Nat.le_refl _, by omega, ?_, ?_, fun z => absurd z (by decide), fun z => absurd z (by decide), fun z => absurd z (by decide), fun z => absurd z (by decide), fun z => absurd z (by decide), fun _ => ⟨?_, fun z => ?_, fun z => ?_, fun z => ?_, ?_, ?_⟩, fun z => absurd z (by decide), fun z => absurd z (by decide)⟩
      · rw [vf 0 (by decide), r0]; rfl
      · rw [vf 5 (by decide), r5]
      · rw [vf 7 (by decide), r7]
      · rw [vf 1 (by decide)]; exact r1.1 z
      · rw [vf 1 (by decide)]; exact r1.2.1 z
      · rw [vf 1 (by decide)]; exact r1.2.2 z
      · rw [vf 2 (by decide)]; exact nlr
      · rw [v3]; exact bd
  · rw [pTo_n k15] at hR
    simp only [↓zwq, zpq, zgq, zhq, eq_sto, eq_kill, eq_zSto, eq_mset, eq_zGd, zsq, Int.reduceToNat, List.length_cons, List.length_nil, Nat.reduceAdd, Nat.reduceLT, Nat.reduceEqDiff, Int.reduceLT, Int.reduceLE, Int.reduceEq, Int.reduceNe, Int.reduceNeg, Int.reduceAdd, Int.reduceSub, Int.reduceMul, if_true, if_false, ite_true, ite_false, reduceIte, true_and, and_true, true_implies, forall_const, decide_eq_true_eq, decide_eq_false_iff_not, Bool.not_eq_true', Bool.not_eq_false', Bool.and_eq_true, Bool.or_eq_true, Bool.and_eq_false_iff, Bool.or_eq_false_iff, Bool.not_eq_true, Bool.not_eq_false, Bool.false_eq_true, Bool.true_eq_false, false_implies, implies_true, b2i_ne, b2i_eq, zB_b2i, not_true_eq_false, not_false_eq_true, List.drop_zero, List.drop_succ_cons, zIn_iff, zI8_iff, or_false, false_or, or_true, true_or, and_false, false_and, Decidable.not_not, s148 (d + 5) h, sg_f (slit tp n j).2.2.2.2.2.2.1 k15]
    exact hR _ (MErr.pre f0 (MErr.of h 1))
end
