/-! LazyForms' reader: what its methods owe -/
def xRes (tp : Nat → Int) (n e tr pr : Nat) (ml : Nat → List (List Int)) (mk : Nat → Int) (i o N : Nat) (σ : Mem) (s : Nat) (R T : zK) : Rs → Prop
  | .ok (t, j) => ∀ (m N' : Nat) (τ : Mem), XP tp n e tr pr ml j o N' τ → XFr tr N σ τ → i < j → N ≤ N' → m < N' → N' + s + 2 * i ≤ N + 2 * j → rX (kdT tp n) (plT tp n) (vlT tp n) mk (xr τ tr) N N' t (m : Int) → R (m : Int) τ
  | .error (f, j) => ∀ τ, XErr tp n tr f j σ τ → T 13 τ
def HEx (tp : Nat → Int) (n e tr pr : Nat) (ml : Nat → List (List Int)) (mk : Nat → Int) (D0 o : Nat) (E : Nat → Rs) : Prop :=
  ∀ D, D0 ≤ D → ∀ (i N : Nat) (σ : Mem) (R T : zK), XP tp n e tr pr ml i o N σ → N ≤ 2 * i → xRes tp n e tr pr ml mk i o N σ 0 R T (E i) → zCallD D 49 [7] σ R T
def XPm (tp : Nat → Int) (n e tr pr : Nat) (ml : Nat → List (List Int)) (i o N : Nat) (σ : Mem) : Prop := XS tp n e tr pr σ ∧ σ 7 4 = (i : Int) ∧ σ 7 5 = (o : Int) ∧ σ tr 8 = (N : Int) ∧ i < e ∧ MTb tr pr (ml (i + 1)) (ml 1000000) σ
def HMk (tp : Nat → Int) (n e tr pr : Nat) (ml : Nat → List (List Int)) (mk : Nat → Int) : Prop :=
  ∀ (d i o N : Nat) (σ : Mem) (R T : zK), XP tp n e tr pr ml i o N σ → i < e → kdT tp n i = 3 → (∀ τ, XPm tp n e tr pr ml i o N τ → (∀ k, XFr tr k σ τ) → R (mk i) τ) → zCallD (d + 4) 54 [7] σ R T
section
variable {tp : Nat → Int} {n e tr pr i o N : Nat} {ml : Nat → List (List Int)} {mk : Nat → Int} {σ : Mem} {E : Nat → Rs}
theorem XErr.pre {τ : Mem} {N f j : Nat} (h : XFr tr N σ τ) : ∀ {υ : Mem}, XErr tp n tr f j τ υ → XErr tp n tr f j σ υ := fun g => ⟨h.1.tr g.1, g.2⟩
/-- what is owed at a later point, from what is owed at an earlier one -/
theorem XPm.next (h : XPm tp n e tr pr ml i o N σ) : XP tp n e tr pr ml (i + 1) o N (mset σ 7 4 ((i + 1 : Nat) : Int)) := by
  obtain ⟨hS, a4, a5, a8, hi, hmt⟩ := h
  have ht := hS.2.2.2.2.2.1
  have h7 : tr ≠ 7 ∧ tr + 10 ≠ 7 ∧ tr + 9 ≠ 7 := by rcases ht with h | h | h | h <;> omega
  refine ⟨hS.fr (Fr.rf.set (by simp [wP])), by simp [eq_mset], by simp [eq_mset, a5], by simp [eq_mset, h7.1, a8], hi, ?_⟩
  refine hmt.fr ht hS.2.2.2.2.2.2.1 (Fr.rf.set (by simp [wP])) ?_ ?_ ?_
  · rw [eq_mset, if_neg h7.1]
  · intro k; rw [eq_mset, if_neg h7.2.1]
  · intro k; rw [eq_mset, if_neg h7.2.2]
theorem XP.lt (h : XP tp n e tr pr ml i o N σ) (hk : 2 ≤ kdT tp n i) : i < e := by
  refine Nat.lt_of_le_of_ne h.2.2.2.2.1 fun z => ?_
  have := h.1.2.2.2.2.2.2.2.1
  rw [← z] at this; omega
/-- atom -/
theorem s59 (d D0 : Nat) (hM : HMk tp n e tr pr ml mk) (hE : HEx tp n e tr pr ml mk D0 o E) (hd : D0 ≤ d + 8) (hml : ∀ k, k < e → kdT tp n k ≠ 3 → ml (k + 1) = ml k) (h : XP tp n e tr pr ml i o N σ) (hN : N ≤ 2 * i) (R T : zK)
    (hR : xRes tp n e tr pr ml mk i o N σ 1 R T (pAtom (kdT tp n) E i)) : zCallD (d + 9) 59 [7] σ R T := by
  have hL := h.lay
  have ht := h.1.2.2.2.2.2.1
  have h2 := h.1.2.2.2.1
  have h4 := h.2.1
  have hie := h.2.2.2.2.1
  have he := h.1.2.2.1
  have hb := h.1.2.1 i hie
  have hin : (0 : Int) ≤ (i : Int) ∧ (i : Int) < ((2002 : Nat) : Int) := by omega
  have hin2 : (0 : Int) ≤ (N : Int) ∧ (N : Int) < ((4096 : Nat) : Int) := by omega
  have hN4 : N < 4096 := by omega
  have ib : i < 2147483647 := by omega
  have t7 : ∀ j, (7 = tr + j) = False := fun j => eq_false (by rcases ht with z | z | z | z <;> omega)
  unfold pAtom at hR
  by_cases k2 : kdT tp n i = 2
  · have hi := h.lt (by rw [k2]; decide)
    rw [if_pos k2] at hR
    have hX := h.next hi (hml i hi (by rw [k2]; decide))
    have hb' := hX.1.2.1 i hie
    have h2' := hX.1.2.2.2.1
    have hA := hX.addN 0 (plT tp n i) 0 0 0
    have hLA := hA.lay
    have h2A := hA.1.2.2.2.1
    simp only [c_59, b_59, ↓zwq, zpq, zgq, zhq, eq_sto, eq_kill, eq_zSto, eq_mset, eq_zGd, zsq, Int.reduceToNat, List.length_cons, List.length_nil, Nat.reduceAdd, Nat.reduceLT, Nat.reduceEqDiff, Int.reduceLT, Int.reduceLE, Int.reduceEq, Int.reduceNe, Int.reduceNeg, Int.reduceAdd, Int.reduceSub, Int.reduceMul, if_true, if_false, ite_true, ite_false, reduceIte, true_and, and_true, true_implies, forall_const, decide_eq_true_eq, decide_eq_false_iff_not, Bool.not_eq_true', Bool.not_eq_false', Bool.and_eq_true, Bool.or_eq_true, Bool.and_eq_false_iff, Bool.or_eq_false_iff, Bool.not_eq_true, Bool.not_eq_false, Bool.false_eq_true, Bool.true_eq_false, false_implies, implies_true, b2i_ne, b2i_eq, zB_b2i, not_true_eq_false, not_false_eq_true, List.drop_zero, List.drop_succ_cons, zIn_iff, zI8_iff, or_false, false_or, or_true, true_or, and_false, false_and, Decidable.not_not, laq hL, h2, h4, hin, Int.toNat_natCast, s36 (d + 7) h, nlit, k2, w32s ib, hb, trs ht, s30 (d + 7) hX.lay ht hX.2.2.2.1 hN4, laq hLA, h2A, trq hLA ht, hin2]
    refine hR N (N + 1) _ (hA.setn (f := 7) rfl (by decide)) ((XFr.at7 ht (Or.inl rfl)).tr (XFr.addN.setn (f := 7) rfl (by decide) (Nat.le_refl _)) (Nat.le_refl _)) (Nat.lt_succ_self _) (Nat.le_succ _) (Nat.lt_succ_self _) (by omega) ?_
    refine ⟨N, rfl, Nat.le_refl _, Nat.lt_succ_self _, ?_⟩
    simp [xr_set (f := 7) (rfl : tr + 8 = tr + 1 + 7) (by decide), xr_add]
  by_cases k4 : kdT tp n i = 4
  · have hi := h.lt (by rw [k4]; decide)
    rw [if_neg k2, if_pos k4] at hR
    have hX := h.next hi (hml i hi (by rw [k4]; decide))
    have hA := hX.addN 1 (plT tp n i) (vlT tp n i) 0 0
    simp only [c_59, b_59, ↓zwq, zpq, zgq, zhq, eq_sto, eq_kill, eq_zSto, eq_mset, eq_zGd, zsq, Int.reduceToNat, List.length_cons, List.length_nil, Nat.reduceAdd, Nat.reduceLT, Nat.reduceEqDiff, Int.reduceLT, Int.reduceLE, Int.reduceEq, Int.reduceNe, Int.reduceNeg, Int.reduceAdd, Int.reduceSub, Int.reduceMul, if_true, if_false, ite_true, ite_false, reduceIte, true_and, and_true, true_implies, forall_const, decide_eq_true_eq, decide_eq_false_iff_not, Bool.not_eq_true', Bool.not_eq_false', Bool.and_eq_true, Bool.or_eq_true, Bool.and_eq_false_iff, Bool.or_eq_false_iff, Bool.not_eq_true, Bool.not_eq_false, Bool.false_eq_true, Bool.true_eq_false, false_implies, implies_true, b2i_ne, b2i_eq, zB_b2i, not_true_eq_false, not_false_eq_true, List.drop_zero, List.drop_succ_cons, zIn_iff, zI8_iff, or_false, false_or, or_true, true_or, and_false, false_and, Decidable.not_not, laq hL, h2, h4, hin, Int.toNat_natCast, s36 (d + 7) h, nlit, k2, k4, w32s ib, hb, trs ht]
    refine s26 (d + 7) hX.1 hie k4 _ _ ?_
    simp only [s30 (d + 7) hX.lay ht hX.2.2.2.1 hN4, forall_const, true_and, Nat.reduceEqDiff, false_implies]
    refine hR N (N + 1) _ hA ((XFr.at7 ht (Or.inl rfl)).tr XFr.addN (Nat.le_refl _)) (Nat.lt_succ_self _) (Nat.le_succ _) (Nat.lt_succ_self _) (by omega) ?_
    refine ⟨N, rfl, Nat.le_refl _, Nat.lt_succ_self _, ?_⟩
    simp [xr_add]
  by_cases k3 : kdT tp n i = 3
  · have hi := h.lt (by rw [k3]; decide)
    rw [if_neg k2, if_neg k4, if_pos k3] at hR
    simp only [c_59, b_59, ↓zwq, zpq, zgq, zhq, eq_sto, eq_kill, eq_zSto, eq_mset, eq_zGd, zsq, Int.reduceToNat, List.length_cons, List.length_nil, Nat.reduceAdd, Nat.reduceLT, Nat.reduceEqDiff, Int.reduceLT, Int.reduceLE, Int.reduceEq, Int.reduceNe, Int.reduceNeg, Int.reduceAdd, Int.reduceSub, Int.reduceMul, if_true, if_false, ite_true, ite_false, reduceIte, true_and, and_true, true_implies, forall_const, decide_eq_true_eq, decide_eq_false_iff_not, Bool.not_eq_true', Bool.not_eq_false', Bool.and_eq_true, Bool.or_eq_true, Bool.and_eq_false_iff, Bool.or_eq_false_iff, Bool.not_eq_true, Bool.not_eq_false, Bool.false_eq_true, Bool.true_eq_false, false_implies, implies_true, b2i_ne, b2i_eq, zB_b2i, not_true_eq_false, not_false_eq_true, List.drop_zero, List.drop_succ_cons, zIn_iff, zI8_iff, or_false, false_or, or_true, true_or, and_false, false_and, Decidable.not_not, laq hL, h2, h4, hin, Int.toNat_natCast, s36 (d + 7) h, nlit, k2, k4, k3]
    refine hM (d + 4) i o N σ _ _ h hi k3 (fun τ hm hf => ?_)
    have hX := hm.next
    have hA := hX.addN 2 (plT tp n i) (mk i) (-1) 0
    have hb2 := (hm.1.2.1 i hie).2.1
    have h22 := hm.1.2.2.2.1
    simp only [↓zwq, zpq, zgq, zhq, eq_sto, eq_kill, eq_zSto, eq_mset, eq_zGd, zsq, Int.reduceToNat, List.length_cons, List.length_nil, Nat.reduceAdd, Nat.reduceLT, Nat.reduceEqDiff, Int.reduceLT, Int.reduceLE, Int.reduceEq, Int.reduceNe, Int.reduceNeg, Int.reduceAdd, Int.reduceSub, Int.reduceMul, if_true, if_false, ite_true, ite_false, reduceIte, true_and, and_true, true_implies, forall_const, decide_eq_true_eq, decide_eq_false_iff_not, Bool.not_eq_true', Bool.not_eq_false', Bool.and_eq_true, Bool.or_eq_true, Bool.and_eq_false_iff, Bool.or_eq_false_iff, Bool.not_eq_true, Bool.not_eq_false, Bool.false_eq_true, Bool.true_eq_false, false_implies, implies_true, b2i_ne, b2i_eq, zB_b2i, not_true_eq_false, not_false_eq_true, List.drop_zero, List.drop_succ_cons, zIn_iff, zI8_iff, or_false, false_or, or_true, true_or, and_false, false_and, Decidable.not_not, laq hm.1.1.1, hm.2.1, h22, hin, Int.toNat_natCast, w32s ib, hb2, trs ht, s30 (d + 7) hX.lay ht hX.2.2.2.1 hN4]
    refine hR N (N + 1) _ hA (((hf N).tr (XFr.at7 ht (Or.inl rfl)) (Nat.le_refl _)).tr XFr.addN (Nat.le_refl _)) (Nat.lt_succ_self _) (Nat.le_succ _) (Nat.lt_succ_self _) (by omega) ?_
    refine ⟨N, rfl, Nat.le_refl _, Nat.lt_succ_self _, ?_⟩
    simp [xr_add, rX, fLen]
  rw [if_neg k2, if_neg k4, if_neg k3] at hR
  unfold pTo at hR
  by_cases k9 : kdT tp n i = 9
  · have hi := h.lt (by rw [k9]; decide)
    rw [if_pos k9] at hR
    have hX := h.next hi (hml i hi (by rw [k9]; decide))
    simp only [c_59, b_59, ↓zwq, zpq, zgq, zhq, eq_sto, eq_kill, eq_zSto, eq_mset, eq_zGd, zsq, Int.reduceToNat, List.length_cons, List.length_nil, Nat.reduceAdd, Nat.reduceLT, Nat.reduceEqDiff, Int.reduceLT, Int.reduceLE, Int.reduceEq, Int.reduceNe, Int.reduceNeg, Int.reduceAdd, Int.reduceSub, Int.reduceMul, if_true, if_false, ite_true, ite_false, reduceIte, true_and, and_true, true_implies, forall_const, decide_eq_true_eq, decide_eq_false_iff_not, Bool.not_eq_true', Bool.not_eq_false', Bool.and_eq_true, Bool.or_eq_true, Bool.and_eq_false_iff, Bool.or_eq_false_iff, Bool.not_eq_true, Bool.not_eq_false, Bool.false_eq_true, Bool.true_eq_false, false_implies, implies_true, b2i_ne, b2i_eq, zB_b2i, not_true_eq_false, not_false_eq_true, List.drop_zero, List.drop_succ_cons, zIn_iff, zI8_iff, or_false, false_or, or_true, true_or, and_false, false_and, Decidable.not_not, laq hL, h2, h4, hin, Int.toNat_natCast, s36 (d + 7) h, nlit, k2, k4, k3, s39 (d + 5) h, k9]
    refine hE (d + 8) hd (i + 1) N _ _ _ hX (by omega) ?_
    unfold pBd at hR
    cases hq : E (i + 1) with
    | error x =>
      rw [hq] at hR
      exact fun τ hτ => hR τ (hτ.pre (XFr.at7 (k := 0) ht (Or.inl rfl)))
    | ok x =>
      rw [hq] at hR
      obtain ⟨t, j⟩ := x
      intro m N' τ x1 x2 x3 xl x4 x5 x6
      dsimp only at hR
      by_cases k10 : kdT tp n j = 10
      · have hj := x1.lt (by rw [k10]; decide)
        rw [if_pos k10] at hR
        have hX2 := x1.next hj (hml j hj (by rw [k10]; decide))
        simp only [↓zwq, zpq, zgq, zhq, eq_sto, eq_kill, eq_zSto, eq_mset, eq_zGd, zsq, Int.reduceToNat, List.length_cons, List.length_nil, Nat.reduceAdd, Nat.reduceLT, Nat.reduceEqDiff, Int.reduceLT, Int.reduceLE, Int.reduceEq, Int.reduceNe, Int.reduceNeg, Int.reduceAdd, Int.reduceSub, Int.reduceMul, if_true, if_false, ite_true, ite_false, reduceIte, true_and, and_true, true_implies, forall_const, decide_eq_true_eq, decide_eq_false_iff_not, Bool.not_eq_true', Bool.not_eq_false', Bool.and_eq_true, Bool.or_eq_true, Bool.and_eq_false_iff, Bool.or_eq_false_iff, Bool.not_eq_true, Bool.not_eq_false, Bool.false_eq_true, Bool.true_eq_false, false_implies, implies_true, b2i_ne, b2i_eq, zB_b2i, not_true_eq_false, not_false_eq_true, List.drop_zero, List.drop_succ_cons, zIn_iff, zI8_iff, or_false, false_or, or_true, true_or, and_false, false_and, Decidable.not_not, s39 (d + 5) x1, nlit, k10]
        refine hR m N' _ hX2 (((XFr.at7 ht (Or.inl rfl)).tr x2 (Nat.le_refl _)).tr (XFr.at7 ht (Or.inl rfl)) (Nat.le_refl _)) (by omega) xl x4 (by omega) ?_
        exact rX_up _ _ _ _ _ _ (Nat.le_refl _) (Nat.le_refl _) (fun f k a b => (XFr.at7 (k := N') ht (Or.inl rfl)).2 f k b) x6
      · rw [if_neg k10] at hR
        simp only [↓zwq, zpq, zgq, zhq, eq_sto, eq_kill, eq_zSto, eq_mset, eq_zGd, zsq, Int.reduceToNat, List.length_cons, List.length_nil, Nat.reduceAdd, Nat.reduceLT, Nat.reduceEqDiff, Int.reduceLT, Int.reduceLE, Int.reduceEq, Int.reduceNe, Int.reduceNeg, Int.reduceAdd, Int.reduceSub, Int.reduceMul, if_true, if_false, ite_true, ite_false, reduceIte, true_and, and_true, true_implies, forall_const, decide_eq_true_eq, decide_eq_false_iff_not, Bool.not_eq_true', Bool.not_eq_false', Bool.and_eq_true, Bool.or_eq_true, Bool.and_eq_false_iff, Bool.or_eq_false_iff, Bool.not_eq_true, Bool.not_eq_false, Bool.false_eq_true, Bool.true_eq_false, false_implies, implies_true, b2i_ne, b2i_eq, zB_b2i, not_true_eq_false, not_false_eq_true, List.drop_zero, List.drop_succ_cons, zIn_iff, zI8_iff, or_false, false_or, or_true, true_or, and_false, false_and, Decidable.not_not, s39 (d + 5) x1, nlit, k10]
        exact hR _ ((XErr.of x1 1).pre ((XFr.at7 ht (Or.inl rfl)).tr x2 (Nat.le_refl _)))
  · rw [if_neg k9] at hR
    simp only [c_59, b_59, ↓zwq, zpq, zgq, zhq, eq_sto, eq_kill, eq_zSto, eq_mset, eq_zGd, zsq, Int.reduceToNat, List.length_cons, List.length_nil, Nat.reduceAdd, Nat.reduceLT, Nat.reduceEqDiff, Int.reduceLT, Int.reduceLE, Int.reduceEq, Int.reduceNe, Int.reduceNeg, Int.reduceAdd, Int.reduceSub, Int.reduceMul, if_true, if_false, ite_true, ite_false, reduceIte, true_and, and_true, true_implies, forall_const, decide_eq_true_eq, decide_eq_false_iff_not, Bool.not_eq_true', Bool.not_eq_false', Bool.and_eq_true, Bool.or_eq_true, Bool.and_eq_false_iff, Bool.or_eq_false_iff, Bool.not_eq_true, Bool.not_eq_false, Bool.false_eq_true, Bool.true_eq_false, false_implies, implies_true, b2i_ne, b2i_eq, zB_b2i, not_true_eq_false, not_false_eq_true, List.drop_zero, List.drop_succ_cons, zIn_iff, zI8_iff, or_false, false_or, or_true, true_or, and_false, false_and, Decidable.not_not, laq hL, h2, h4, hin, Int.toNat_natCast, s36 (d + 7) h, nlit, k2, k4, k3, s39 (d + 5) h, k9]
    exact hR _ (XErr.of h 1)
end
