/-! LazyFormsModel's reader: bindings, functions -/
section
variable {tp : Nat → Int} {n e A i o N : Nat} {σ : Mem} {E : Nat → Rs}
theorem m152 (d D0 F : Nat) (hF : e ≤ F) (hE : HMx tp n e A D0 o E) (hd : D0 ≤ d + 8) (h : MP tp n e A i o N σ) (hN : N ≤ 2 * i) (R T : zK)
    (hR : mResE tp n e A i o N σ R T (pTo (kdT tp n) 2 i (pBind (kdT tp n) F E i))) : zCallD (d + 9) 152 [90] σ R T := by
  have hL := h.lay
  have hie := h.2.2.2.2
  have he := h.1.2.2.1
  have hA := h.1.1.2.2.1
  have hin0 : (0 : Int) ≤ (i : Int) ∧ (i : Int) < ((2010 : Nat) : Int) := by omega
  by_cases k2 : kdT tp n i = 2
  · rw [pTo_y k2] at hR
    have hi := h.lt (by rw [k2]; decide)
    have hX := h.next hi
    have hN4 : N < 4000 := by omega
    have fx : YFr A N σ (mset σ 90 6 ((i + 1 : Nat) : Int)) := YFr.at90 (Or.inl rfl)
    have hX1 := hX.addM 8 (tvT tp n A i) (-1) (-1) (ppT tp n A i)
    have f1 : YFr A N σ (addM A N 8 (tvT tp n A i) (-1) (-1) (ppT tp n A i) (mset σ 90 6 ((i + 1 : Nat) : Int))) := fx.tr (YFr.addM hN4) (Nat.le_refl _)
    have r0 : ∀ f, yr (addM A N 8 (tvT tp n A i) (-1) (-1) (ppT tp n A i) (mset σ 90 6 ((i + 1 : Nat) : Int))) f (4000 * A + N) = if f = 0 then 8 else if f = 1 then tvT tp n A i else if f = 5 then ppT tp n A i else yr (addM A N 8 (tvT tp n A i) (-1) (-1) (ppT tp n A i) (mset σ 90 6 ((i + 1 : Nat) : Int))) f (4000 * A + N) := fun f => by
      split
      · next e0 => subst e0; rw [yr_add]; simp
      · split
        · next e0 => subst e0; rw [yr_add]; simp
        · split
          · next e0 => subst e0; rw [yr_add]; simp
          · rfl
    have r4 : yr (addM A N 8 (tvT tp n A i) (-1) (-1) (ppT tp n A i) (mset σ 90 6 ((i + 1 : Nat) : Int))) 4 (4000 * A + N) = -1 := by rw [yr_add]; simp
    simp only [c_152, b_152, ↓zwq, zpq, zgq, zhq, eq_sto, eq_kill, eq_zSto, eq_mset, eq_zGd, zsq, Int.reduceToNat, List.length_cons, List.length_nil, Nat.reduceAdd, Nat.reduceLT, Nat.reduceEqDiff, Int.reduceLT, Int.reduceLE, Int.reduceEq, Int.reduceNe, Int.reduceNeg, Int.reduceAdd, Int.reduceSub, Int.reduceMul, if_true, if_false, ite_true, ite_false, reduceIte, true_and, and_true, true_implies, forall_const, decide_eq_true_eq, decide_eq_false_iff_not, Bool.not_eq_true', Bool.not_eq_false', Bool.and_eq_true, Bool.or_eq_true, Bool.and_eq_false_iff, Bool.or_eq_false_iff, Bool.not_eq_true, Bool.not_eq_false, Bool.false_eq_true, Bool.true_eq_false, false_implies, implies_true, b2i_ne, b2i_eq, zB_b2i, not_true_eq_false, not_false_eq_true, List.drop_zero, List.drop_succ_cons, zIn_iff, zI8_iff, or_false, false_or, or_true, true_or, and_false, false_and, Decidable.not_not, laq hL, h.2.1, s149 (d + 6) h, kk_t (klit tp n i).2.2.1 k2, hin0, Int.toNat_natCast, (h.1.2.1 i hie).2.2 (show 2 ≤ kdT tp n i by omega), s144 (d + 7) hX hN4 hie, adq]
    refine s150 (d + 5) hX1 (by omega) (by omega) false _ _ (fun j τ hij hkn hkj x1 x2 hrow => ?_)
    have hje := x1.2.2.2.2
    have hkn' : ∀ k, i + 1 ≤ k → k < j → kdT tp n k = 2 := fun k a b => (hkn k a b).resolve_right (fun z => absurd z.1 (by decide))
    have hp := pNmF (F := F) hij hkn' (fun z => hkj (Or.inl z)) (by omega)
    unfold pBind at hR
    rw [hp] at hR
    dsimp only at hR
    have hinN : (0 : Int) ≤ ((4000 * A + N : Nat) : Int) ∧ ((4000 * A + N : Nat) : Int) < ((16000 : Nat) : Int) := by omega
    have x1s : MP tp n e A j o (N + 1 + (j - (i + 1))) (mset τ 99 (4000 * A + N) (if j - (i + 1) = 0 then -1 else ((4000 * A + (N + 1) : Nat) : Int))) := x1.setn (f := 2) rfl (by decide)
    have f2 : YFr A N σ (mset τ 99 (4000 * A + N) (if j - (i + 1) = 0 then -1 else ((4000 * A + (N + 1) : Nat) : Int))) := (f1.tr x2 (by omega)).setn (f := 2) rfl (by decide) (Nat.le_refl _) (by omega)
    simp only [↓zwq, zpq, zgq, zhq, eq_sto, eq_kill, eq_zSto, eq_mset, eq_zGd, zsq, Int.reduceToNat, List.length_cons, List.length_nil, Nat.reduceAdd, Nat.reduceLT, Nat.reduceEqDiff, Int.reduceLT, Int.reduceLE, Int.reduceEq, Int.reduceNe, Int.reduceNeg, Int.reduceAdd, Int.reduceSub, Int.reduceMul, if_true, if_false, ite_true, ite_false, reduceIte, true_and, and_true, true_implies, forall_const, decide_eq_true_eq, decide_eq_false_iff_not, Bool.not_eq_true', Bool.not_eq_false', Bool.and_eq_true, Bool.or_eq_true, Bool.and_eq_false_iff, Bool.or_eq_false_iff, Bool.not_eq_true, Bool.not_eq_false, Bool.false_eq_true, Bool.true_eq_false, false_implies, implies_true, b2i_ne, b2i_eq, zB_b2i, not_true_eq_false, not_false_eq_true, List.drop_zero, List.drop_succ_cons, zIn_iff, zI8_iff, or_false, false_or, or_true, true_or, and_false, false_and, Decidable.not_not, hinN, Int.toNat_natCast]
    have hl1 := x1s.lay
    by_cases k14 : kdT tp n j = 14
    · have hj := x1s.lt (by rw [k14]; decide)
      have hX2 := x1s.next hj
      rw [pTo_y k14] at hR
      have fy : YFr A (N + 1 + (j - (i + 1))) (mset τ 99 (4000 * A + N) (if j - (i + 1) = 0 then -1 else ((4000 * A + (N + 1) : Nat) : Int))) (mset (mset τ 99 (4000 * A + N) (if j - (i + 1) = 0 then -1 else ((4000 * A + (N + 1) : Nat) : Int))) 90 6 ((j + 1 : Nat) : Int)) := YFr.at90 (Or.inl rfl)
      simp only [s148 (d + 5) x1s, sg_t (slit tp n j).2.2.2.2.2.1 k14, ↓zwq, zpq, zgq, zhq, eq_sto, eq_kill, eq_zSto, eq_mset, eq_zGd, zsq, Int.reduceToNat, List.length_cons, List.length_nil, Nat.reduceAdd, Nat.reduceLT, Nat.reduceEqDiff, Int.reduceLT, Int.reduceLE, Int.reduceEq, Int.reduceNe, Int.reduceNeg, Int.reduceAdd, Int.reduceSub, Int.reduceMul, if_true, if_false, ite_true, ite_false, reduceIte, true_and, and_true, true_implies, forall_const, decide_eq_true_eq, decide_eq_false_iff_not, Bool.not_eq_true', Bool.not_eq_false', Bool.and_eq_true, Bool.or_eq_true, Bool.and_eq_false_iff, Bool.or_eq_false_iff, Bool.not_eq_true, Bool.not_eq_false, Bool.false_eq_true, Bool.true_eq_false, false_implies, implies_true, b2i_ne, b2i_eq, zB_b2i, not_true_eq_false, not_false_eq_true, List.drop_zero, List.drop_succ_cons, zIn_iff, zI8_iff, or_false, false_or, or_true, true_or, and_false, false_and, Decidable.not_not, laq x1.lay]
      refine hE (d + 8) hd (j + 1) _ _ _ _ hX2 (by omega) ?_
      cases hq : E (j + 1) with
      | error x => rw [hq, pBd_er] at hR; exact fun υ hυ => hR υ (MErr.pre f2 (MErr.pre fy hυ))
      | ok x =>
        obtain ⟨t, k⟩ := x
        rw [hq, pBd_ok] at hR
        intro m N2 υ y1 y2 y3 yl y4 y5 y6
        have hke := y1.2.2.2.2
        have hL2 := y1.lay
        have frU : YFr A (N + 1 + (j - (i + 1))) (mset τ 99 (4000 * A + N) (if j - (i + 1) = 0 then -1 else ((4000 * A + (N + 1) : Nat) : Int))) υ := fy.tr y2 (Nat.le_refl _)
        simp only [↓zwq, zpq, zgq, zhq, eq_sto, eq_kill, eq_zSto, eq_mset, eq_zGd, zsq, Int.reduceToNat, List.length_cons, List.length_nil, Nat.reduceAdd, Nat.reduceLT, Nat.reduceEqDiff, Int.reduceLT, Int.reduceLE, Int.reduceEq, Int.reduceNe, Int.reduceNeg, Int.reduceAdd, Int.reduceSub, Int.reduceMul, if_true, if_false, ite_true, ite_false, reduceIte, true_and, and_true, true_implies, forall_const, decide_eq_true_eq, decide_eq_false_iff_not, Bool.not_eq_true', Bool.not_eq_false', Bool.and_eq_true, Bool.or_eq_true, Bool.and_eq_false_iff, Bool.or_eq_false_iff, Bool.not_eq_true, Bool.not_eq_false, Bool.false_eq_true, Bool.true_eq_false, false_implies, implies_true, b2i_ne, b2i_eq, zB_b2i, not_true_eq_false, not_false_eq_true, List.drop_zero, List.drop_succ_cons, zIn_iff, zI8_iff, or_false, false_or, or_true, true_or, and_false, false_and, Decidable.not_not, hinN, Int.toNat_natCast]
        have hB : MP tp n e A k o N2 (mset υ 100 (4000 * A + N) (m : Int)) := y1.setn (f := 3) rfl (by decide)
        have fB : YFr A N σ (mset υ 100 (4000 * A + N) (m : Int)) := (f2.tr frU (by omega)).setn (f := 3) rfl (by decide) (Nat.le_refl _) (by omega)
        have xe : ∀ f g, yr (mset υ 100 (4000 * A + N) (m : Int)) f g = if f = 3 ∧ g = 4000 * A + N then (m : Int) else yr υ f g := fun f g => by rw [yr_set (f := 3) rfl (by decide)]
        have xt : ∀ f g, g < 4000 * A + (N + 1 + (j - (i + 1))) → yr υ f g = if f = 2 ∧ g = 4000 * A + N then (if j - (i + 1) = 0 then -1 else ((4000 * A + (N + 1) : Nat) : Int)) else yr τ f g := fun f g hg => by rw [frU.2 f g (Or.inl hg), yr_set (f := 2) rfl (by decide)]
        have x0 : ∀ f, yr τ f (4000 * A + N) = yr (addM A N 8 (tvT tp n A i) (-1) (-1) (ppT tp n A i) (mset σ 90 6 ((i + 1 : Nat) : Int))) f (4000 * A + N) := fun f => x2.2 f _ (Or.inl (by omega))
        have nl : rM (kdT tp n) (tvT tp n A) (ppT tp n A) (yr (mset υ 100 (4000 * A + N) (m : Int))) (4000 * A + N + 1) (4000 * A + N2) (nmL (i + 1) (j - (i + 1))) (if j - (i + 1) = 0 then -1 else ((4000 * A + (N + 1) : Nat) : Int)) := by
          have z := rM_row (kd := kdT tp n) (tv := tvT tp n A) (pl := ppT tp n A) (lo := 4000 * A + N + 1) (hi := 4000 * A + N + 1 + (j - (i + 1))) _ _ _ (Nat.le_refl _) (Nat.le_refl _) hrow
          refine rM_up _ _ _ _ _ _ (Nat.le_refl _) (by omega) (fun f k a b => ?_) z
          rw [xe, if_neg (by omega), xt f k (by omega), if_neg (by omega)]
        have bd : rM (kdT tp n) (tvT tp n A) (ppT tp n A) (yr (mset υ 100 (4000 * A + N) (m : Int))) (4000 * A + N + 1) (4000 * A + N2) t (m : Int) := rM_up _ _ _ _ _ _ (by omega) (Nat.le_refl _) (fun f k a b => by rw [xe, if_neg (by omega)]) y6
        have v3 : yr (mset υ 100 (4000 * A + N) (m : Int)) 3 (4000 * A + N) = (m : Int) := by rw [xe, if_pos ⟨rfl, rfl⟩]
        have v2 : yr (mset υ 100 (4000 * A + N) (m : Int)) 2 (4000 * A + N) = if j - (i + 1) = 0 then -1 else ((4000 * A + (N + 1) : Nat) : Int) := by rw [xe, if_neg (fun z => absurd z.1 (by decide)), xt 2 _ (by omega), if_pos ⟨rfl, rfl⟩]
        have vf : ∀ f, f ≠ 2 → f ≠ 3 → yr (mset υ 100 (4000 * A + N) (m : Int)) f (4000 * A + N) = yr (addM A N 8 (tvT tp n A i) (-1) (-1) (ppT tp n A i) (mset σ 90 6 ((i + 1 : Nat) : Int))) f (4000 * A + N) := fun f a b => by
          rw [xe, if_neg (fun z => b z.1), xt f _ (by omega), if_neg (fun z => a z.1)]; exact x0 f
        refine hR (4000 * A + N) N2 _ hB fB (by omega) (Nat.le_refl _) (by omega) (by omega) ?_ (by unfold Is; rw [vf 4 (by decide) (by decide)]; exact r4)
        refine ⟨4000 * A + N, rfl, Nat.le_refl _, by omega, ?_, ?_, fun z => absurd z (by decide), fun z => absurd z (by decide), fun z => absurd z (by decide), fun z => absurd z (by decide), fun _ => ⟨?_, ?_, ?_⟩, fun z => absurd z (by decide), fun z => absurd z (by decide), fun z => absurd z (by decide)⟩
        · rw [vf 0 (by decide) (by decide), r0]; rfl
        · rw [vf 5 (by decide) (by decide), r0]; rfl
        · rw [vf 1 (by decide) (by decide), r0]; rfl
        · rw [v2]; exact nl
        · rw [v3]; exact bd
    · rw [pTo_n k14] at hR
      simp only [s148 (d + 5) x1s, sg_f (slit tp n j).2.2.2.2.2.1 k14, ↓zwq, zpq, zgq, zhq, eq_sto, eq_kill, eq_zSto, eq_mset, eq_zGd, zsq, Int.reduceToNat, List.length_cons, List.length_nil, Nat.reduceAdd, Nat.reduceLT, Nat.reduceEqDiff, Int.reduceLT, Int.reduceLE, Int.reduceEq, Int.reduceNe, Int.reduceNeg, Int.reduceAdd, Int.reduceSub, Int.reduceMul, if_true, if_false, ite_true, ite_false, reduceIte, true_and, and_true, true_implies, forall_const, decide_eq_true_eq, decide_eq_false_iff_not, Bool.not_eq_true', Bool.not_eq_false', Bool.and_eq_true, Bool.or_eq_true, Bool.and_eq_false_iff, Bool.or_eq_false_iff, Bool.not_eq_true, Bool.not_eq_false, Bool.false_eq_true, Bool.true_eq_false, false_implies, implies_true, b2i_ne, b2i_eq, zB_b2i, not_true_eq_false, not_false_eq_true, List.drop_zero, List.drop_succ_cons, zIn_iff, zI8_iff, or_false, false_or, or_true, true_or, and_false, false_and, Decidable.not_not]
      exact hR _ (MErr.pre f2 (MErr.of x1s 1))
  · rw [pTo_n k2] at hR
    simp only [c_152, b_152, ↓zwq, zpq, zgq, zhq, eq_sto, eq_kill, eq_zSto, eq_mset, eq_zGd, zsq, Int.reduceToNat, List.length_cons, List.length_nil, Nat.reduceAdd, Nat.reduceLT, Nat.reduceEqDiff, Int.reduceLT, Int.reduceLE, Int.reduceEq, Int.reduceNe, Int.reduceNeg, Int.reduceAdd, Int.reduceSub, Int.reduceMul, if_true, if_false, ite_true, ite_false, reduceIte, true_and, and_true, true_implies, forall_const, decide_eq_true_eq, decide_eq_false_iff_not, Bool.not_eq_true', Bool.not_eq_false', Bool.and_eq_true, Bool.or_eq_true, Bool.and_eq_false_iff, Bool.or_eq_false_iff, Bool.not_eq_true, Bool.not_eq_false, Bool.false_eq_true, Bool.true_eq_false, false_implies, implies_true, b2i_ne, b2i_eq, zB_b2i, not_true_eq_false, not_false_eq_true, List.drop_zero, List.drop_succ_cons, zIn_iff, zI8_iff, or_false, false_or, or_true, true_or, and_false, false_and, Decidable.not_not, laq hL, h.2.1, s149 (d + 6) h, kk_f (klit tp n i).2.2.1 k2]
    exact hR _ (MErr.of h 1)
end
