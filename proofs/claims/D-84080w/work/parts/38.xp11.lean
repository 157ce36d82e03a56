/-! LazyForms' reader: alts -/
section
variable {tp : Nat → Int} {n e tr pr i o N : Nat} {ml : Nat → List (List Int)} {mk : Nat → Int} {σ : Mem} {E : Nat → Rs}
theorem xNames53 (d : Nat) (h : XP tp n e tr pr ml i o N σ) (hN : N ≤ 2 * i) (hml : ∀ k, k < e → kdT tp n k ≠ 3 → ml (k + 1) = ml k) (tk lk vv : Int) (K : zV) (R T : zK)
    (hK : ∀ j τ (la : Int), i ≤ j → (∀ k, i ≤ k → k < j → kdT tp n k = 2 ∨ kdT tp n k = 24) → ¬ (kdT tp n j = 2 ∨ kdT tp n j = 24) → XP tp n e tr pr ml j o (N + (j - i)) τ → XFr tr N σ τ → Row (kdT tp n) (plT tp n) (xr τ tr) N i (j - i) → K [(3, 7), (1, tk), (1, lk), (1, vv), (1, if j - i = 0 then -1 else (N : Int)), (1, la), (0, 0)] τ) :
    zLpW (cOr (c0 .ne (eCall 36 [(eP (pL 3 0)), (eP (pI 2))])) (c0 .ne (eCall 36 [(eP (pL 3 0)), (eP (pI 24))])))
  (sBlk 6 (sSeq (sSt 1 6 (eCall 45 [(eP (pL 3 0))]))
  (sSeq (sIfE (cP (kI .eq (pL 1 5) (pI (-1))))
  (sSt 1 4 (eP (pL 1 6)))
  (sSe 1 (eP (p1 (oGf 5 6 3) (p1 (oGf 2 2 3) (pL 3 0)))) (eP (pL 1 5)) (eP (pL 1 6))))
  (sSt 1 5 (eP (pL 1 6)))))) sSkip (zCallD (d + 3)) [(3, 7), (1, tk), (1, lk), (1, vv), (1, -1), (1, -1), (0, 0)] σ K R T := by
  refine lpW (fun m en s => ∃ j, m = e - j ∧ i ≤ j ∧ (∀ k, i ≤ k → k < j → kdT tp n k = 2 ∨ kdT tp n k = 24) ∧ XP tp n e tr pr ml j o (N + (j - i)) s ∧ XFr tr N σ s ∧ Row (kdT tp n) (plT tp n) (xr s tr) N i (j - i) ∧ en = [(3, 7), (1, tk), (1, lk), (1, vv), (1, if j - i = 0 then -1 else (N : Int)), (1, if j - i = 0 then -1 else ((N + (j - i) - 1 : Nat) : Int)), (0, 0)]) ?_ (e - i) _ _ ⟨i, rfl, Nat.le_refl _, fun k a b => by omega, by rw [Nat.sub_self]; exact h, XFr.rf, fun k hk => by omega, by rw [Nat.sub_self]; rfl⟩
  rintro m en s ⟨j, rfl, hij, hk, hX, hF, hRow, rfl⟩
  have hL := hX.lay
  have ht := hX.1.2.2.2.2.2.1
  have hje := hX.2.2.2.2.1
  have he := hX.1.2.2.1
  by_cases g : kdT tp n j = 2 ∨ kdT tp n j = 24
  · have hj : j < e := hX.lt (by omega)
    have hm : e - (j + 1) < e - j := by omega
    have stp : ∀ Q : zK, (∀ τ, XP tp n e tr pr ml (j + 1) o (N + (j + 1 - i)) τ → XFr tr (N + (j - i)) s τ → xr τ tr 0 (N + (j - i)) = 9 → xr τ tr 1 (N + (j - i)) = plT tp n (i + (j - i)) → xr τ tr 7 (N + (j - i)) = (if kdT tp n (i + (j - i)) = 24 then -1 else ((i + (j - i) : Nat) : Int)) → xr τ tr 6 (N + (j - i)) = -1 → Q ((N + (j - i) : Nat) : Int) τ) → zCallD (d + 3) 45 [7] s Q T := by
      intro Q hQ
      refine s45 (d + 1) hX hj (by omega) (hml j hj (by omega)) _ _ (fun τ hX2 hF2 q0 q1 q7 q6 => ?_)
      rw [show N + (j - i) + 1 = N + (j + 1 - i) by omega] at hX2
      refine hQ τ hX2 hF2 q0 ?_ ?_ q6
      · rw [Nat.add_sub_cancel' hij]; exact q1
      · rw [Nat.add_sub_cancel' hij]; exact q7
    have ec2 : j - i + 1 = j + 1 - i := by omega
    have hk' : ∀ k, i ≤ k → k < j + 1 → kdT tp n k = 2 ∨ kdT tp n k = 24 := fun k a b => by
      by_cases z : k = j
      · rw [z]; exact g
      · exact hk k a (by omega)
    have hin : (0 : Int) ≤ ((N + (j - i) - 1 : Nat) : Int) ∧ ((N + (j - i) - 1 : Nat) : Int) < ((4096 : Nat) : Int) := by omega
    have hne : ((N + (j - i) - 1 : Nat) : Int) ≠ -1 := by omega
    have ne1 : ¬ j + 1 - i = 0 := by omega
    have l1 : N + (j + 1 - i) - 1 = N + (j - i) := by omega
    have body : ∀ τ, XP tp n e tr pr ml (j + 1) o (N + (j + 1 - i)) τ → XFr tr (N + (j - i)) s τ → xr τ tr 0 (N + (j - i)) = 9 → xr τ tr 1 (N + (j - i)) = plT tp n (i + (j - i)) → xr τ tr 7 (N + (j - i)) = (if kdT tp n (i + (j - i)) = 24 then -1 else ((i + (j - i) : Nat) : Int)) → xr τ tr 6 (N + (j - i)) = -1 →
        (sIfE (cP (kI .eq (pL 1 5) (pI (-1)))) (sSt 1 4 (eP (pL 1 6))) (sSe 1 (eP (p1 (oGf 5 6 3) (p1 (oGf 2 2 3) (pL 3 0)))) (eP (pL 1 5)) (eP (pL 1 6)))).1.2 (zCallD (d + 3)) [(3, 7), (1, tk), (1, lk), (1, vv), (1, if j - i = 0 then -1 else (N : Int)), (1, if j - i = 0 then -1 else ((N + (j - i) - 1 : Nat) : Int)), (1, ((N + (j - i) : Nat) : Int))] τ (fun en s => en = [(3, 7), (1, tk), (1, lk), (1, vv), (1, (N : Int)), (1, if j - i = 0 then -1 else ((N + (j - i) - 1 : Nat) : Int)), (1, ((N + (j - i) : Nat) : Int))] ∧ XP tp n e tr pr ml (j + 1) o (N + (j + 1 - i)) s ∧ XFr tr N σ s ∧ Row (kdT tp n) (plT tp n) (xr s tr) N i (j + 1 - i)) zF zF R T := by
      intro τ hX2 hF2 q0 q1 q7 q6
      have hL2 := hX2.lay
      by_cases c0 : j - i = 0
      · have r1 : Row (kdT tp n) (plT tp n) (xr τ tr) N i (j + 1 - i) := by
          rw [← ec2]
          exact hRow.more (fun f k a b _ => by omega) (fun z => by omega) q0 q1 q7 q6
        simp only [↓zwq, zpq, zgq, zhq, eq_sto, eq_kill, eq_zSto, eq_mset, eq_zGd, zsq, Int.reduceToNat, List.length_cons, List.length_nil, Nat.reduceAdd, Nat.reduceLT, Nat.reduceEqDiff, Int.reduceLT, Int.reduceLE, Int.reduceEq, Int.reduceNe, Int.reduceNeg, Int.reduceAdd, Int.reduceSub, Int.reduceMul, if_true, if_false, ite_true, ite_false, reduceIte, true_and, and_true, true_implies, forall_const, decide_eq_true_eq, decide_eq_false_iff_not, Bool.not_eq_true', Bool.not_eq_false', Bool.and_eq_true, Bool.or_eq_true, Bool.and_eq_false_iff, Bool.or_eq_false_iff, Bool.not_eq_true, Bool.not_eq_false, Bool.false_eq_true, Bool.true_eq_false, false_implies, implies_true, b2i_ne, b2i_eq, zB_b2i, not_true_eq_false, not_false_eq_true, List.drop_zero, List.drop_succ_cons, zIn_iff, zI8_iff, or_false, false_or, or_true, true_or, and_false, false_and, Decidable.not_not, c0, Nat.add_zero]
        exact ⟨hX2, hF.tr hF2 (by omega), r1⟩
      · have r1 : Row (kdT tp n) (plT tp n) (xr (mset τ (tr + 7) (N + (j - i) - 1) ((N + (j - i) : Nat) : Int)) tr) N i (j + 1 - i) := by
          rw [← ec2]
          refine hRow.more (fun f k a b z => ?_) (fun _ => ?_) ?_ ?_ ?_ ?_
          · rw [xr_set (f := 6) rfl (by decide), if_neg (fun y => z y.1 (by omega))]; exact hF2.2 f k (by omega)
          · rw [xr_set (f := 6) rfl (by decide), if_pos ⟨rfl, rfl⟩]
          · rw [xr_set (f := 6) rfl (by decide), if_neg (fun y => absurd y.1 (by decide))]; exact q0
          · rw [xr_set (f := 6) rfl (by decide), if_neg (fun y => absurd y.1 (by decide))]; exact q1
          · rw [xr_set (f := 6) rfl (by decide), if_neg (fun y => absurd y.1 (by decide))]; exact q7
          · rw [xr_set (f := 6) rfl (by decide), if_neg (fun y => by omega)]; exact q6
        have x1 : XP tp n e tr pr ml (j + 1) o (N + (j + 1 - i)) (mset τ (tr + 7) (N + (j - i) - 1) ((N + (j - i) : Nat) : Int)) := hX2.setn (f := 6) rfl (by decide)
        have f1 : XFr tr N σ (mset τ (tr + 7) (N + (j - i) - 1) ((N + (j - i) : Nat) : Int)) := (hF.tr hF2 (by omega)).setn (f := 6) rfl (by decide) (by omega)
        simp only [↓zwq, zpq, zgq, zhq, eq_sto, eq_kill, eq_zSto, eq_mset, eq_zGd, zsq, Int.reduceToNat, List.length_cons, List.length_nil, Nat.reduceAdd, Nat.reduceLT, Nat.reduceEqDiff, Int.reduceLT, Int.reduceLE, Int.reduceEq, Int.reduceNe, Int.reduceNeg, Int.reduceAdd, Int.reduceSub, Int.reduceMul, if_true, if_false, ite_true, ite_false, reduceIte, true_and, and_true, true_implies, forall_const, decide_eq_true_eq, decide_eq_false_iff_not, Bool.not_eq_true', Bool.not_eq_false', Bool.and_eq_true, Bool.or_eq_true, Bool.and_eq_false_iff, Bool.or_eq_false_iff, Bool.not_eq_true, Bool.not_eq_false, Bool.false_eq_true, Bool.true_eq_false, false_implies, implies_true, b2i_ne, b2i_eq, zB_b2i, not_true_eq_false, not_false_eq_true, List.drop_zero, List.drop_succ_cons, zIn_iff, zI8_iff, or_false, false_or, or_true, true_or, and_false, false_and, Decidable.not_not, c0, hne, laq hL2, hX2.1.2.2.2.1, Int.toNat_natCast, trq hL2 ht, trs ht, hin]
        exact ⟨x1, f1, r1⟩
    have last : ∀ en s', en = [(3, 7), (1, tk), (1, lk), (1, vv), (1, (N : Int)), (1, if j - i = 0 then -1 else ((N + (j - i) - 1 : Nat) : Int)), (1, ((N + (j - i) : Nat) : Int))] ∧ XP tp n e tr pr ml (j + 1) o (N + (j + 1 - i)) s' ∧ XFr tr N σ s' ∧ Row (kdT tp n) (plT tp n) (xr s' tr) N i (j + 1 - i) → ∃ m, m < e - j ∧ ∃ j', m = e - j' ∧ i ≤ j' ∧ (∀ k, i ≤ k → k < j' → kdT tp n k = 2 ∨ kdT tp n k = 24) ∧ XP tp n e tr pr ml j' o (N + (j' - i)) s' ∧ XFr tr N σ s' ∧ Row (kdT tp n) (plT tp n) (xr s' tr) N i (j' - i) ∧ [(3, 7), (1, tk), (1, lk), (1, vv), (1, (N : Int)), (1, ((N + (j - i) : Nat) : Int)), (0, 0)] = [(3, 7), (1, tk), (1, lk), (1, vv), (1, if j' - i = 0 then -1 else (N : Int)), (1, if j' - i = 0 then -1 else ((N + (j' - i) - 1 : Nat) : Int)), (0, 0)] := by
      rintro en s' ⟨-, b1, b2, b3⟩
      refine ⟨_, hm, j + 1, rfl, Nat.le_succ_of_le hij, hk', b1, b2, b3, ?_⟩
      rw [if_neg ne1, if_neg ne1, l1]
    have whole : ∀ τ, XP tp n e tr pr ml (j + 1) o (N + (j + 1 - i)) τ → XFr tr (N + (j - i)) s τ → xr τ tr 0 (N + (j - i)) = 9 → xr τ tr 1 (N + (j - i)) = plT tp n (i + (j - i)) → xr τ tr 7 (N + (j - i)) = (if kdT tp n (i + (j - i)) = 24 then -1 else ((i + (j - i) : Nat) : Int)) → xr τ tr 6 (N + (j - i)) = -1 → ∀ P : zV, (∀ en s', en = [(3, 7), (1, tk), (1, lk), (1, vv), (1, (N : Int)), (1, if j - i = 0 then -1 else ((N + (j - i) - 1 : Nat) : Int)), (1, ((N + (j - i) : Nat) : Int))] ∧ XP tp n e tr pr ml (j + 1) o (N + (j + 1 - i)) s' ∧ XFr tr N σ s' ∧ Row (kdT tp n) (plT tp n) (xr s' tr) N i (j + 1 - i) → P en s') → (sIfE (cP (kI .eq (pL 1 5) (pI (-1)))) (sSt 1 4 (eP (pL 1 6))) (sSe 1 (eP (p1 (oGf 5 6 3) (p1 (oGf 2 2 3) (pL 3 0)))) (eP (pL 1 5)) (eP (pL 1 6)))).1.2 (zCallD (d + 3)) [(3, 7), (1, tk), (1, lk), (1, vv), (1, if j - i = 0 then -1 else (N : Int)), (1, if j - i = 0 then -1 else ((N + (j - i) - 1 : Nat) : Int)), (1, ((N + (j - i) : Nat) : Int))] τ P zF zF R T :=
      fun τ h1 h2 h3 h4 h5 h6 P hP => (sIfE _ _ _).2.1 _ _ _ _ _ _ _ _ _ _ _ _ _ _ (zCallD_mono _) hP (fun _ _ z => z) (fun _ _ z => z) (fun _ _ => id) (fun _ _ => id) (body τ h1 h2 h3 h4 h5 h6)
    have run : (sBlk 6 (sSeq (sSt 1 6 (eCall 45 [(eP (pL 3 0))]))
        (sSeq (sIfE (cP (kI .eq (pL 1 5) (pI (-1))))
        (sSt 1 4 (eP (pL 1 6)))
        (sSe 1 (eP (p1 (oGf 5 6 3) (p1 (oGf 2 2 3) (pL 3 0)))) (eP (pL 1 5)) (eP (pL 1 6))))
        (sSt 1 5 (eP (pL 1 6)))))).1.2 (zCallD (d + 3)) [(3, 7), (1, tk), (1, lk), (1, vv), (1, if j - i = 0 then -1 else (N : Int)), (1, if j - i = 0 then -1 else ((N + (j - i) - 1 : Nat) : Int)), (0, 0)] s (fun en s' => ∃ m, m < e - j ∧ ∃ j', m = e - j' ∧ i ≤ j' ∧ (∀ k, i ≤ k → k < j' → kdT tp n k = 2 ∨ kdT tp n k = 24) ∧ XP tp n e tr pr ml j' o (N + (j' - i)) s' ∧ XFr tr N σ s' ∧ Row (kdT tp n) (plT tp n) (xr s' tr) N i (j' - i) ∧ en = [(3, 7), (1, tk), (1, lk), (1, vv), (1, if j' - i = 0 then -1 else (N : Int)), (1, if j' - i = 0 then -1 else ((N + (j' - i) - 1 : Nat) : Int)), (0, 0)]) zF zF R T := by
      have e6 : (sBlk 6 (sSeq (sSt 1 6 (eCall 45 [(eP (pL 3 0))]))
        (sSeq (sIfE (cP (kI .eq (pL 1 5) (pI (-1))))
        (sSt 1 4 (eP (pL 1 6)))
        (sSe 1 (eP (p1 (oGf 5 6 3) (p1 (oGf 2 2 3) (pL 3 0)))) (eP (pL 1 5)) (eP (pL 1 6))))
        (sSt 1 5 (eP (pL 1 6)))))).1.2 = (sBlk 6 (sSeq (sSt 1 6 (eCall 45 [(eP (pL 3 0))])) (sSeq (sIfE (cP (kI .eq (pL 1 5) (pI (-1)))) (sSt 1 4 (eP (pL 1 6))) (sSe 1 (eP (p1 (oGf 5 6 3) (p1 (oGf 2 2 3) (pL 3 0)))) (eP (pL 1 5)) (eP (pL 1 6)))) (sSt 1 5 (eP (pL 1 6)))))).1.2 := rfl
      clear e6
      generalize hI : (sIfE (cP (kI .eq (pL 1 5) (pI (-1)))) (sSt 1 4 (eP (pL 1 6))) (sSe 1 (eP (p1 (oGf 5 6 3) (p1 (oGf 2 2 3) (pL 3 0)))) (eP (pL 1 5)) (eP (pL 1 6)))) = I at whole ⊢
      simp only [↓zwq, zpq, zgq, zhq, eq_sto, eq_kill, eq_zSto, eq_mset, eq_zGd, zsq, Int.reduceToNat, List.length_cons, List.length_nil, Nat.reduceAdd, Nat.reduceLT, Nat.reduceEqDiff, Int.reduceLT, Int.reduceLE, Int.reduceEq, Int.reduceNe, Int.reduceNeg, Int.reduceAdd, Int.reduceSub, Int.reduceMul, if_true, if_false, ite_true, ite_false, reduceIte, true_and, and_true, true_implies, forall_const, decide_eq_true_eq, decide_eq_false_iff_not, Bool.not_eq_true', Bool.not_eq_false', Bool.and_eq_true, Bool.or_eq_true, Bool.and_eq_false_iff, Bool.or_eq_false_iff, Bool.not_eq_true, Bool.not_eq_false, Bool.false_eq_true, Bool.true_eq_false, false_implies, implies_true, b2i_ne, b2i_eq, zB_b2i, not_true_eq_false, not_false_eq_true, List.drop_zero, List.drop_succ_cons, zIn_iff, zI8_iff, or_false, false_or, or_true, true_or, and_false, false_and, Decidable.not_not]
      refine stp _ (fun τ h1 h2 h3 h4 h5 h6 => ?_)
      refine whole τ h1 h2 h3 h4 h5 h6 _ (fun en s' hh => ?_)
      have hl := last en s' hh
      obtain ⟨rfl, -⟩ := hh
      simp only [↓zwq, zpq, zgq, zhq, eq_sto, eq_kill, eq_zSto, eq_mset, eq_zGd, zsq, Int.reduceToNat, List.length_cons, List.length_nil, Nat.reduceAdd, Nat.reduceLT, Nat.reduceEqDiff, Int.reduceLT, Int.reduceLE, Int.reduceEq, Int.reduceNe, Int.reduceNeg, Int.reduceAdd, Int.reduceSub, Int.reduceMul, if_true, if_false, ite_true, ite_false, reduceIte, true_and, and_true, true_implies, forall_const, decide_eq_true_eq, decide_eq_false_iff_not, Bool.not_eq_true', Bool.not_eq_false', Bool.and_eq_true, Bool.or_eq_true, Bool.and_eq_false_iff, Bool.or_eq_false_iff, Bool.not_eq_true, Bool.not_eq_false, Bool.false_eq_true, Bool.true_eq_false, false_implies, implies_true, b2i_ne, b2i_eq, zB_b2i, not_true_eq_false, not_false_eq_true, List.drop_zero, List.drop_succ_cons, zIn_iff, zI8_iff, or_false, false_or, or_true, true_or, and_false, false_and, Decidable.not_not]
      exact hl
    have mono : ∀ s1, s1 = s → (sBlk 6 (sSeq (sSt 1 6 (eCall 45 [(eP (pL 3 0))]))
        (sSeq (sIfE (cP (kI .eq (pL 1 5) (pI (-1))))
        (sSt 1 4 (eP (pL 1 6)))
        (sSe 1 (eP (p1 (oGf 5 6 3) (p1 (oGf 2 2 3) (pL 3 0)))) (eP (pL 1 5)) (eP (pL 1 6))))
        (sSt 1 5 (eP (pL 1 6)))))).1.2 (zCallD (d + 3)) [(3, 7), (1, tk), (1, lk), (1, vv), (1, if j - i = 0 then -1 else (N : Int)), (1, if j - i = 0 then -1 else ((N + (j - i) - 1 : Nat) : Int)), (0, 0)] s1 (fun en s2 => sSkip.1.2 (zCallD (d + 3)) en s2 (fun en s' => ∃ m, m < e - j ∧ ∃ j', m = e - j' ∧ i ≤ j' ∧ (∀ k, i ≤ k → k < j' → kdT tp n k = 2 ∨ kdT tp n k = 24) ∧ XP tp n e tr pr ml j' o (N + (j' - i)) s' ∧ XFr tr N σ s' ∧ Row (kdT tp n) (plT tp n) (xr s' tr) N i (j' - i) ∧ en = [(3, 7), (1, tk), (1, lk), (1, vv), (1, if j' - i = 0 then -1 else (N : Int)), (1, if j' - i = 0 then -1 else ((N + (j' - i) - 1 : Nat) : Int)), (0, 0)]) zF zF R T) K (fun en s2 => sSkip.1.2 (zCallD (d + 3)) en s2 (fun en s' => ∃ m, m < e - j ∧ ∃ j', m = e - j' ∧ i ≤ j' ∧ (∀ k, i ≤ k → k < j' → kdT tp n k = 2 ∨ kdT tp n k = 24) ∧ XP tp n e tr pr ml j' o (N + (j' - i)) s' ∧ XFr tr N σ s' ∧ Row (kdT tp n) (plT tp n) (xr s' tr) N i (j' - i) ∧ en = [(3, 7), (1, tk), (1, lk), (1, vv), (1, if j' - i = 0 then -1 else (N : Int)), (1, if j' - i = 0 then -1 else ((N + (j' - i) - 1 : Nat) : Int)), (0, 0)]) zF zF R T) R T := fun s1 hs1 => by
      subst hs1
      exact (sBlk _ _).2.1 _ _ _ _ _ _ _ _ _ _ _ _ _ _ (zCallD_mono _) (fun _ _ z => z) (fun _ _ z => z.elim) (fun _ _ z => z.elim) (fun _ _ => id) (fun _ _ => id) run
    refine (cOr _ _).2.1 _ _ _ _ (fun b s1 => b = true ∧ s1 = s) _ T T (zCallD_mono _) (fun b s1 hb => ⟨fun _ => mono s1 hb.2, fun z => by rw [hb.1] at z; cases z⟩) (fun _ _ => id) ?_
    by_cases g2 : kdT tp n j = 2
    · simp only [↓zwq, zpq, zgq, zhq, eq_sto, eq_kill, eq_zSto, eq_mset, eq_zGd, zsq, Int.reduceToNat, List.length_cons, List.length_nil, Nat.reduceAdd, Nat.reduceLT, Nat.reduceEqDiff, Int.reduceLT, Int.reduceLE, Int.reduceEq, Int.reduceNe, Int.reduceNeg, Int.reduceAdd, Int.reduceSub, Int.reduceMul, if_true, if_false, ite_true, ite_false, reduceIte, true_and, and_true, true_implies, forall_const, decide_eq_true_eq, decide_eq_false_iff_not, Bool.not_eq_true', Bool.not_eq_false', Bool.and_eq_true, Bool.or_eq_true, Bool.and_eq_false_iff, Bool.or_eq_false_iff, Bool.not_eq_true, Bool.not_eq_false, Bool.false_eq_true, Bool.true_eq_false, false_implies, implies_true, b2i_ne, b2i_eq, zB_b2i, not_true_eq_false, not_false_eq_true, List.drop_zero, List.drop_succ_cons, zIn_iff, zI8_iff, or_false, false_or, or_true, true_or, and_false, false_and, Decidable.not_not, s36 (d + 2) hX, nlit, g2]
    · have g24 := g.resolve_left g2
      simp only [↓zwq, zpq, zgq, zhq, eq_sto, eq_kill, eq_zSto, eq_mset, eq_zGd, zsq, Int.reduceToNat, List.length_cons, List.length_nil, Nat.reduceAdd, Nat.reduceLT, Nat.reduceEqDiff, Int.reduceLT, Int.reduceLE, Int.reduceEq, Int.reduceNe, Int.reduceNeg, Int.reduceAdd, Int.reduceSub, Int.reduceMul, if_true, if_false, ite_true, ite_false, reduceIte, true_and, and_true, true_implies, forall_const, decide_eq_true_eq, decide_eq_false_iff_not, Bool.not_eq_true', Bool.not_eq_false', Bool.and_eq_true, Bool.or_eq_true, Bool.and_eq_false_iff, Bool.or_eq_false_iff, Bool.not_eq_true, Bool.not_eq_false, Bool.false_eq_true, Bool.true_eq_false, false_implies, implies_true, b2i_ne, b2i_eq, zB_b2i, not_true_eq_false, not_false_eq_true, List.drop_zero, List.drop_succ_cons, zIn_iff, zI8_iff, or_false, false_or, or_true, true_or, and_false, false_and, Decidable.not_not, s36 (d + 2) hX, nlit, g2, g24, decide_true]
  · have g2 : ¬ kdT tp n j = 2 := fun z => g (Or.inl z)
    have g24 : ¬ kdT tp n j = 24 := fun z => g (Or.inr z)
    simp only [↓zwq, zpq, zgq, zhq, eq_sto, eq_kill, eq_zSto, eq_mset, eq_zGd, zsq, Int.reduceToNat, List.length_cons, List.length_nil, Nat.reduceAdd, Nat.reduceLT, Nat.reduceEqDiff, Int.reduceLT, Int.reduceLE, Int.reduceEq, Int.reduceNe, Int.reduceNeg, Int.reduceAdd, Int.reduceSub, Int.reduceMul, if_true, if_false, ite_true, ite_false, reduceIte, true_and, and_true, true_implies, forall_const, decide_eq_true_eq, decide_eq_false_iff_not, Bool.not_eq_true', Bool.not_eq_false', Bool.and_eq_true, Bool.or_eq_true, Bool.and_eq_false_iff, Bool.or_eq_false_iff, Bool.not_eq_true, Bool.not_eq_false, Bool.false_eq_true, Bool.true_eq_false, false_implies, implies_true, b2i_ne, b2i_eq, zB_b2i, not_true_eq_false, not_false_eq_true, List.drop_zero, List.drop_succ_cons, zIn_iff, zI8_iff, or_false, false_or, or_true, true_or, and_false, false_and, Decidable.not_not, s36 (d + 2) hX, nlit, g2, g24]
    exact hK j s _ hij hk g hX hF hRow
end
