/-! LazyFormsModel's reader: what its methods owe; atoms -/
def mRes (tp : Nat → Int) (n e A i o N : Nat) (σ : Mem) (s : Nat) (R T : zK) : Rs → Prop
  | .ok (t, j) => ∀ (m N' : Nat) (τ : Mem), MP tp n e A j o N' τ → YFr A N σ τ → i < j → N ≤ N' → m < 4000 * A + N' → N' + s + 2 * i ≤ N + 2 * j → rM (kdT tp n) (tvT tp n A) (ppT tp n A) (yr τ) (4000 * A + N) (4000 * A + N') t (m : Int) → R (m : Int) τ
  | .error (f, j) => ∀ τ, MErr tp n f j σ τ → T 3 τ
def mResE (tp : Nat → Int) (n e A i o N : Nat) (σ : Mem) (R T : zK) : Rs → Prop
  | .ok (t, j) => ∀ (m N' : Nat) (τ : Mem), MP tp n e A j o N' τ → YFr A N σ τ → i < j → 4000 * A + N ≤ m → m < 4000 * A + N' → N' + 2 * i ≤ N + 2 * j → rM (kdT tp n) (tvT tp n A) (ppT tp n A) (yr τ) (4000 * A + N) (4000 * A + N') t (m : Int) → Is (yr τ 4 m) (-1) → R (m : Int) τ
  | .error (f, j) => ∀ τ, MErr tp n f j σ τ → T 3 τ
def HMx (tp : Nat → Int) (n e A D0 o : Nat) (E : Nat → Rs) : Prop :=
  ∀ D, D0 ≤ D → ∀ (i N : Nat) (σ : Mem) (R T : zK), MP tp n e A i o N σ → N ≤ 2 * i → mRes tp n e A i o N σ 0 R T (E i) → zCallD D 156 [90] σ R T
section
variable {tp : Nat → Int} {n e A i o N : Nat} {σ : Mem} {E : Nat → Rs}
theorem kk_f {tp : Nat → Int} {n i : Nat} {v : Int} {k : Nat} (h : (((mKd (kdT tp n i) : Nat) : Int) = v) = (kdT tp n i = k)) (g : ¬ kdT tp n i = k) : (((mKd (kdT tp n i) : Nat) : Int) = v) = False := h.trans (eq_false g)
theorem kk_t {tp : Nat → Int} {n i : Nat} {v : Int} {k : Nat} (h : (((mKd (kdT tp n i) : Nat) : Int) = v) = (kdT tp n i = k)) (g : kdT tp n i = k) : (((mKd (kdT tp n i) : Nat) : Int) = v) = True := h.trans (eq_true g)
theorem sg_t {k j : Nat} {v : Int} (h : isSg k v = decide (k = j)) (g : k = j) : isSg k v = true := h.trans (decide_eq_true g)
theorem sg_f {k j : Nat} {v : Int} (h : isSg k v = decide (k = j)) (g : ¬ k = j) : isSg k v = false := h.trans (decide_eq_false g)
theorem m167 (d D0 : Nat) (hE : HMx tp n e A D0 o E) (hd : D0 ≤ d + 8) (h : MP tp n e A i o N σ) (hN : N ≤ 2 * i) (R T : zK)
    (hR : mRes tp n e A i o N σ 1 R T (pAtom (kdT tp n) E i)) : zCallD (d + 9) 167 [90] σ R T := by
  have hL := h.lay
  have hie := h.2.2.2.2
  have he := h.1.2.2.1
  have hA := h.1.1.2.2.1
  have hin : (0 : Int) ≤ (i : Int) ∧ (i : Int) < ((2010 : Nat) : Int) := by omega
  have ib : i < 2147483647 := by omega
  have sl := slit tp n i
  unfold pAtom at hR
  by_cases k9 : kdT tp n i = 9
  · have hi := h.lt (by rw [k9]; decide)
    have hX := h.next hi
    rw [if_neg (by rw [k9]; decide), if_neg (by rw [k9]; decide), if_neg (by rw [k9]; decide), pTo_y k9] at hR
    simp only [c_167, b_167, ↓zwq, zpq, zgq, zhq, eq_sto, eq_kill, eq_zSto, eq_mset, eq_zGd, zsq, Int.reduceToNat, List.length_cons, List.length_nil, Nat.reduceAdd, Nat.reduceLT, Nat.reduceEqDiff, Int.reduceLT, Int.reduceLE, Int.reduceEq, Int.reduceNe, Int.reduceNeg, Int.reduceAdd, Int.reduceSub, Int.reduceMul, if_true, if_false, ite_true, ite_false, reduceIte, true_and, and_true, true_implies, forall_const, decide_eq_true_eq, decide_eq_false_iff_not, Bool.not_eq_true', Bool.not_eq_false', Bool.and_eq_true, Bool.or_eq_true, Bool.and_eq_false_iff, Bool.or_eq_false_iff, Bool.not_eq_true, Bool.not_eq_false, Bool.false_eq_true, Bool.true_eq_false, false_implies, implies_true, b2i_ne, b2i_eq, zB_b2i, not_true_eq_false, not_false_eq_true, List.drop_zero, List.drop_succ_cons, zIn_iff, zI8_iff, or_false, false_or, or_true, true_or, and_false, false_and, Decidable.not_not, laq hL, h.2.1, s147 (d + 6) h, sg_t sl.1 k9]
    refine hE (d + 8) hd (i + 1) N _ _ _ hX (by omega) ?_
    have fx : YFr A N σ (mset σ 90 6 ((i + 1 : Nat) : Int)) := YFr.at90 (Or.inl rfl)
    cases hq : E (i + 1) with
    | error x => rw [hq, pBd_er] at hR; exact fun τ hτ => hR τ (MErr.pre fx hτ)
    | ok x =>
      obtain ⟨t, j⟩ := x
      rw [hq, pBd_ok] at hR
      intro m N' τ x1 x2 x3 xl x4 x5 x6
      have sl2 := slit tp n j
      by_cases k10 : kdT tp n j = 10
      · have hj := x1.lt (by rw [k10]; decide)
        rw [pTo_y k10] at hR
        have hX2 := x1.next hj
        have fy : YFr A N' τ (mset τ 90 6 ((j + 1 : Nat) : Int)) := YFr.at90 (Or.inl rfl)
        simp only [↓zwq, zpq, zgq, zhq, eq_sto, eq_kill, eq_zSto, eq_mset, eq_zGd, zsq, Int.reduceToNat, List.length_cons, List.length_nil, Nat.reduceAdd, Nat.reduceLT, Nat.reduceEqDiff, Int.reduceLT, Int.reduceLE, Int.reduceEq, Int.reduceNe, Int.reduceNeg, Int.reduceAdd, Int.reduceSub, Int.reduceMul, if_true, if_false, ite_true, ite_false, reduceIte, true_and, and_true, true_implies, forall_const, decide_eq_true_eq, decide_eq_false_iff_not, Bool.not_eq_true', Bool.not_eq_false', Bool.and_eq_true, Bool.or_eq_true, Bool.and_eq_false_iff, Bool.or_eq_false_iff, Bool.not_eq_true, Bool.not_eq_false, Bool.false_eq_true, Bool.true_eq_false, false_implies, implies_true, b2i_ne, b2i_eq, zB_b2i, not_true_eq_false, not_false_eq_true, List.drop_zero, List.drop_succ_cons, zIn_iff, zI8_iff, or_false, false_or, or_true, true_or, and_false, false_and, Decidable.not_not, s148 (d + 5) x1, sg_t sl2.2.1 k10]
        exact hR m N' _ hX2 ((fx.tr x2 (Nat.le_refl _)).tr fy xl) (by omega) xl x4 (by omega) (rM_up _ _ _ _ _ _ (Nat.le_refl _) (Nat.le_refl _) (fun f k a b => fy.2 f k (Or.inl b)) x6)
      · rw [pTo_n k10] at hR
        simp only [↓zwq, zpq, zgq, zhq, eq_sto, eq_kill, eq_zSto, eq_mset, eq_zGd, zsq, Int.reduceToNat, List.length_cons, List.length_nil, Nat.reduceAdd, Nat.reduceLT, Nat.reduceEqDiff, Int.reduceLT, Int.reduceLE, Int.reduceEq, Int.reduceNe, Int.reduceNeg, Int.reduceAdd, Int.reduceSub, Int.reduceMul, if_true, if_false, ite_true, ite_false, reduceIte, true_and, and_true, true_implies, forall_const, decide_eq_true_eq, decide_eq_false_iff_not, Bool.not_eq_true', Bool.not_eq_false', Bool.and_eq_true, Bool.or_eq_true, Bool.and_eq_false_iff, Bool.or_eq_false_iff, Bool.not_eq_true, Bool.not_eq_false, Bool.false_eq_true, Bool.true_eq_false, false_implies, implies_true, b2i_ne, b2i_eq, zB_b2i, not_true_eq_false, not_false_eq_true, List.drop_zero, List.drop_succ_cons, zIn_iff, zI8_iff, or_false, false_or, or_true, true_or, and_false, false_and, Decidable.not_not, s148 (d + 5) x1, sg_f sl2.2.1 k10]
        exact hR _ (MErr.pre (fx.tr x2 (Nat.le_refl _)) (MErr.of x1 1))
  have n9 := sg_f sl.1 k9
  have node : ∀ (kk kn : Nat) (v : Int), isAt (kdT tp n i) = true → (kk = 0 ∨ kk = 1 ∨ kk = 2) → v = tvT tp n A i → mNk kk = (kn : Int) → mRes tp n e A i o N σ 1 R T (.ok (nd kk i .nil .nil, i + 1)) → R ((4000 * A + N : Nat) : Int) (addM A N (kn : Int) v (-1) (-1) (ppT tp n A i) (mset σ 90 6 ((i + 1 : Nat) : Int))) := by
    intro kk kn v hat hkk hv hnk hR
    have hi := h.lt (by
      have : 2 ≤ kdT tp n i := by
        simp only [isAt, Bool.or_eq_true, decide_eq_true_eq] at hat
        omega
      exact this)
    have hN4 : N < 4000 := by omega
    have hX := h.next hi
    refine hR (4000 * A + N) (N + 1) _ (hX.addM _ _ _ _ _) ((YFr.at90 (Or.inl rfl)).tr (YFr.addM hN4) (Nat.le_refl _)) (Nat.lt_succ_self _) (Nat.le_succ _) (by omega) (by omega) ?_
    refine ⟨4000 * A + N, rfl, Nat.le_refl _, by omega, ?_⟩
    simp only [yr_add, if_true, if_false, Nat.reduceEqDiff, hnk, hv]
    rcases hkk with rfl | rfl | rfl
    · simp
    · simp
    · simp [rM]
  by_cases k2 : kdT tp n i = 2
  · have hat : isAt (kdT tp n i) = true := by rw [k2]; decide
    have hi := h.lt (by rw [k2]; decide)
    have hX := h.next hi
    rw [if_pos k2] at hR
    have kl := klit tp n i
    simp only [c_167, b_167, ↓zwq, zpq, zgq, zhq, eq_sto, eq_kill, eq_zSto, eq_mset, eq_zGd, zsq, Int.reduceToNat, List.length_cons, List.length_nil, Nat.reduceAdd, Nat.reduceLT, Nat.reduceEqDiff, Int.reduceLT, Int.reduceLE, Int.reduceEq, Int.reduceNe, Int.reduceNeg, Int.reduceAdd, Int.reduceSub, Int.reduceMul, if_true, if_false, ite_true, ite_false, reduceIte, true_and, and_true, true_implies, forall_const, decide_eq_true_eq, decide_eq_false_iff_not, Bool.not_eq_true', Bool.not_eq_false', Bool.and_eq_true, Bool.or_eq_true, Bool.and_eq_false_iff, Bool.or_eq_false_iff, Bool.not_eq_true, Bool.not_eq_false, Bool.false_eq_true, Bool.true_eq_false, false_implies, implies_true, b2i_ne, b2i_eq, zB_b2i, not_true_eq_false, not_false_eq_true, List.drop_zero, List.drop_succ_cons, zIn_iff, zI8_iff, or_false, false_or, or_true, true_or, and_false, false_and, Decidable.not_not, laq hL, h.2.1, s147 (d + 6) h, n9, s155 (d + 6) h, hat, w32s ib, hin, Int.toNat_natCast, (h.1.2.1 i hie).1, kk_f kl.2.2.2.2.1 (show ¬ kdT tp n i = 4 by omega), kk_f kl.2.2.2.1 (show ¬ kdT tp n i = 3 by omega), s144 (d + 7) hX (show N < 4000 by omega) hie]
    exact node 0 2 _ hat (Or.inl rfl) ((h.1.2.1 i hie).2.2 (by omega)) rfl hR
  by_cases k4 : kdT tp n i = 4
  · have hat : isAt (kdT tp n i) = true := by rw [k4]; decide
    have hi := h.lt (by rw [k4]; decide)
    have hX := h.next hi
    rw [if_neg k2, if_pos k4] at hR
    have kl := klit tp n i
    simp only [c_167, b_167, ↓zwq, zpq, zgq, zhq, eq_sto, eq_kill, eq_zSto, eq_mset, eq_zGd, zsq, Int.reduceToNat, List.length_cons, List.length_nil, Nat.reduceAdd, Nat.reduceLT, Nat.reduceEqDiff, Int.reduceLT, Int.reduceLE, Int.reduceEq, Int.reduceNe, Int.reduceNeg, Int.reduceAdd, Int.reduceSub, Int.reduceMul, if_true, if_false, ite_true, ite_false, reduceIte, true_and, and_true, true_implies, forall_const, decide_eq_true_eq, decide_eq_false_iff_not, Bool.not_eq_true', Bool.not_eq_false', Bool.and_eq_true, Bool.or_eq_true, Bool.and_eq_false_iff, Bool.or_eq_false_iff, Bool.not_eq_true, Bool.not_eq_false, Bool.false_eq_true, Bool.true_eq_false, false_implies, implies_true, b2i_ne, b2i_eq, zB_b2i, not_true_eq_false, not_false_eq_true, List.drop_zero, List.drop_succ_cons, zIn_iff, zI8_iff, or_false, false_or, or_true, true_or, and_false, false_and, Decidable.not_not, laq hL, h.2.1, s147 (d + 6) h, n9, s155 (d + 6) h, hat, w32s ib, hin, Int.toNat_natCast, (h.1.2.1 i hie).1, kk_t kl.2.2.2.2.1 k4, s144 (d + 7) hX (show N < 4000 by omega) hie]
    exact node 1 0 _ hat (Or.inr (Or.inl rfl)) ((h.1.2.1 i hie).2.2 (by omega)) rfl hR
  by_cases k3 : kdT tp n i = 3
  · have hat : isAt (kdT tp n i) = true := by rw [k3]; decide
    have hi := h.lt (by rw [k3]; decide)
    have hX := h.next hi
    rw [if_neg k2, if_neg k4, if_pos k3] at hR
    have kl := klit tp n i
    simp only [c_167, b_167, ↓zwq, zpq, zgq, zhq, eq_sto, eq_kill, eq_zSto, eq_mset, eq_zGd, zsq, Int.reduceToNat, List.length_cons, List.length_nil, Nat.reduceAdd, Nat.reduceLT, Nat.reduceEqDiff, Int.reduceLT, Int.reduceLE, Int.reduceEq, Int.reduceNe, Int.reduceNeg, Int.reduceAdd, Int.reduceSub, Int.reduceMul, if_true, if_false, ite_true, ite_false, reduceIte, true_and, and_true, true_implies, forall_const, decide_eq_true_eq, decide_eq_false_iff_not, Bool.not_eq_true', Bool.not_eq_false', Bool.and_eq_true, Bool.or_eq_true, Bool.and_eq_false_iff, Bool.or_eq_false_iff, Bool.not_eq_true, Bool.not_eq_false, Bool.false_eq_true, Bool.true_eq_false, false_implies, implies_true, b2i_ne, b2i_eq, zB_b2i, not_true_eq_false, not_false_eq_true, List.drop_zero, List.drop_succ_cons, zIn_iff, zI8_iff, or_false, false_or, or_true, true_or, and_false, false_and, Decidable.not_not, laq hL, h.2.1, s147 (d + 6) h, n9, s155 (d + 6) h, hat, w32s ib, hin, Int.toNat_natCast, (h.1.2.1 i hie).1, kk_f kl.2.2.2.2.1 k4, kk_t kl.2.2.2.1 k3, s144 (d + 7) hX (show N < 4000 by omega) hie]
    exact node 2 1 _ hat (Or.inr (Or.inr rfl)) ((h.1.2.1 i hie).2.2 (by omega)) rfl hR
  · rw [if_neg k2, if_neg k4, if_neg k3, pTo_n k9] at hR
    have hat : isAt (kdT tp n i) = false := by simp [isAt, k2, k4, k3, k9]
    simp only [c_167, b_167, ↓zwq, zpq, zgq, zhq, eq_sto, eq_kill, eq_zSto, eq_mset, eq_zGd, zsq, Int.reduceToNat, List.length_cons, List.length_nil, Nat.reduceAdd, Nat.reduceLT, Nat.reduceEqDiff, Int.reduceLT, Int.reduceLE, Int.reduceEq, Int.reduceNe, Int.reduceNeg, Int.reduceAdd, Int.reduceSub, Int.reduceMul, if_true, if_false, ite_true, ite_false, reduceIte, true_and, and_true, true_implies, forall_const, decide_eq_true_eq, decide_eq_false_iff_not, Bool.not_eq_true', Bool.not_eq_false', Bool.and_eq_true, Bool.or_eq_true, Bool.and_eq_false_iff, Bool.or_eq_false_iff, Bool.not_eq_true, Bool.not_eq_false, Bool.false_eq_true, Bool.true_eq_false, false_implies, implies_true, b2i_ne, b2i_eq, zB_b2i, not_true_eq_false, not_false_eq_true, List.drop_zero, List.drop_succ_cons, zIn_iff, zI8_iff, or_false, false_or, or_true, true_or, and_false, false_and, Decidable.not_not, laq hL, h.2.1, s147 (d + 6) h, n9, s155 (d + 6) h, hat, s145 (d + 7) h]
    exact hR _ (MErr.of h 1)
end
