/-! LazyFormsModel's reader: expressions -/
theorem pBody_no {kd : Nat → Nat} {F i : Nat} {E : Nat → Rs} (h : bgn (kd i) = false) : pBody kd F E i = .error (1, i) := by
  have h' : ¬ kd i = 2 ∧ ¬ kd i = 4 ∧ ¬ kd i = 3 ∧ ¬ kd i = 9 ∧ ¬ kd i = 16 ∧ ¬ kd i = 5 ∧ ¬ kd i = 7 := by
    simp [bgn, isAt] at h
    omega
  obtain ⟨a, b, c, d, e, f, g⟩ := h'
  have at1 : pAtom kd E i = .error (1, i) := by
    unfold pAtom
    rw [if_neg a, if_neg b, if_neg c, pTo_n d]
  unfold pBody pCmp pSum pProd pUse
  rw [if_neg e, if_neg f, if_neg g, at1]
  rfl
section
variable {tp : Nat → Int} {n e A i o N : Nat} {σ : Mem} {E : Nat → Rs}
theorem MP.opn (k : Nat) (h : MP tp n e A i o N σ) : MP tp n e A i k N (mset σ 90 22 (k : Int)) := by
  obtain ⟨hS, a4, a5, a8, hi⟩ := h
  exact ⟨hS.fr (Fr.rf.set (by decide)), by simp [eq_mset, a4], by simp [eq_mset], by simp [eq_mset, a8], hi⟩
theorem m156s (D0 F : Nat) (hF : e ≤ F) (ho : o < 20) (hE : HMx tp n e A D0 (o + 1) E) : HMx tp n e A (D0 + 14) o (pBody (kdT tp n) F E) := by
  intro D hD i N σ R T h hN hR
  obtain ⟨d, rfl⟩ : ∃ d, D = d + 14 := ⟨D - 14, by omega⟩
  have hL := h.lay
  have hd : D0 ≤ d + 8 := by omega
  have ob : o < 2147483647 := by omega
  have hn20 : ((o : Int) = 20) = False := eq_false (by omega)
  have he := h.1.2.2.1
  have hie := h.2.2.2.2
  have hin0 : (0 : Int) ≤ (i : Int) ∧ (i : Int) < ((2010 : Nat) : Int) := by omega
  have hX : MP tp n e A i (o + 1) N (mset σ 90 22 ((o + 1 : Nat) : Int)) := h.opn (o + 1)
  have fx : YFr A N σ (mset σ 90 22 ((o + 1 : Nat) : Int)) := YFr.at90 (Or.inr (Or.inl rfl))
  have kl := klit tp n i
  have sl := slit tp n i
  cases hb : bgn (kdT tp n i) with
  | false =>
    rw [pBody_no hb] at hR
    simp only [c_156, b_156, ↓zwq, zpq, zgq, zhq, eq_sto, eq_kill, eq_zSto, eq_mset, eq_zGd, zsq, Int.reduceToNat, List.length_cons, List.length_nil, Nat.reduceAdd, Nat.reduceLT, Nat.reduceEqDiff, Int.reduceLT, Int.reduceLE, Int.reduceEq, Int.reduceNe, Int.reduceNeg, Int.reduceAdd, Int.reduceSub, Int.reduceMul, if_true, if_false, ite_true, ite_false, reduceIte, true_and, and_true, true_implies, forall_const, decide_eq_true_eq, decide_eq_false_iff_not, Bool.not_eq_true', Bool.not_eq_false', Bool.and_eq_true, Bool.or_eq_true, Bool.and_eq_false_iff, Bool.or_eq_false_iff, Bool.not_eq_true, Bool.not_eq_false, Bool.false_eq_true, Bool.true_eq_false, false_implies, implies_true, b2i_ne, b2i_eq, zB_b2i, not_true_eq_false, not_false_eq_true, List.drop_zero, List.drop_succ_cons, zIn_iff, zI8_iff, or_false, false_or, or_true, true_or, and_false, false_and, Decidable.not_not, laq hL, s153 (d + 10) h, hb, s145 (d + 12) h]
    exact hR _ (MErr.of h 1)
  | true =>
    have hi := h.lt (by
      have : 2 ≤ kdT tp n i := by
        simp only [bgn, isAt, Bool.or_eq_true, decide_eq_true_eq] at hb
        omega
      exact this)
    have wsub : w32 (((o + 1 : Nat) : Int) - 1) = (o : Int) := by unfold w32; omega
    have key : mRes tp n e A i (o + 1) N (mset σ 90 22 ((o + 1 : Nat) : Int)) 0 (fun v s => (Lay s ∧ s 90 22 = ((o + 1 : Nat) : Int)) ∧ R v (mset s 90 22 (o : Int))) T (pBody (kdT tp n) F E i) := by
      revert hR
      cases pBody (kdT tp n) F E i with
      | error x => exact fun hR τ hτ => hR τ (MErr.pre fx hτ)
      | ok x =>
        obtain ⟨t, j⟩ := x
        intro hR m N' τ x1 x2 x3 xl x4 x5 x6
        refine ⟨⟨x1.lay, x1.2.2.1⟩, ?_⟩
        have fy : YFr A N' τ (mset τ 90 22 (o : Int)) := YFr.at90 (Or.inr (Or.inl rfl))
        exact hR m N' _ (x1.opn o) ((fx.tr x2 (Nat.le_refl _)).tr fy xl) x3 xl x4 x5 (rM_up _ _ _ _ _ _ (Nat.le_refl _) (Nat.le_refl _) (fun f k a b => fy.2 f k (Or.inl b)) x6)
    clear hR
    have fin : ∀ (y : Nat) (as : List Int) (s0 : Mem), zCallD (d + 13) y as s0 (fun v s => (Lay s ∧ s 90 22 = ((o + 1 : Nat) : Int)) ∧ R v (mset s 90 22 (o : Int))) T → ∀ Q : zK, (∀ v s, ((Lay s ∧ s 90 22 = ((o + 1 : Nat) : Int)) ∧ R v (mset s 90 22 (o : Int))) → Q v s) → zCallD (d + 13) y as s0 Q T := fun y as s0 h1 Q h2 => zCallD_mono _ _ _ _ _ _ _ _ (fun v s hs => h2 v s hs) (fun _ _ => id) h1
    unfold pBody at key
    by_cases k16 : kdT tp n i = 16
    · rw [if_pos k16] at key
      have hX2 := hX.next hi
      have fz : YFr A N (mset σ 90 22 ((o + 1 : Nat) : Int)) (mset (mset σ 90 22 ((o + 1 : Nat) : Int)) 90 6 ((i + 1 : Nat) : Int)) := YFr.at90 (Or.inl rfl)
      have key2 : mRes tp n e A i (o + 1) N (mset (mset σ 90 22 ((o + 1 : Nat) : Int)) 90 6 ((i + 1 : Nat) : Int)) 0 (fun v s => (Lay s ∧ s 90 22 = ((o + 1 : Nat) : Int)) ∧ R v (mset s 90 22 (o : Int))) T (pLam (kdT tp n) F E i) := by
        revert key
        cases pLam (kdT tp n) F E i with
        | error x => exact fun hR τ hτ => hR τ (MErr.pre fz hτ)
        | ok x =>
          obtain ⟨t, j⟩ := x
          exact fun hR m N' τ x1 x2 x3 xl x4 x5 x6 => hR m N' τ x1 (fz.tr x2 (Nat.le_refl _)) x3 xl x4 x5 x6
      have z := m157 (d + 4) D0 F hF hE (by omega) hX2 hN _ T key2
      simp only [c_156, b_156, ↓zwq, zpq, zgq, zhq, eq_sto, eq_kill, eq_zSto, eq_mset, eq_zGd, zsq, Int.reduceToNat, List.length_cons, List.length_nil, Nat.reduceAdd, Nat.reduceLT, Nat.reduceEqDiff, Int.reduceLT, Int.reduceLE, Int.reduceEq, Int.reduceNe, Int.reduceNeg, Int.reduceAdd, Int.reduceSub, Int.reduceMul, if_true, if_false, ite_true, ite_false, reduceIte, true_and, and_true, true_implies, forall_const, decide_eq_true_eq, decide_eq_false_iff_not, Bool.not_eq_true', Bool.not_eq_false', Bool.and_eq_true, Bool.or_eq_true, Bool.and_eq_false_iff, Bool.or_eq_false_iff, Bool.not_eq_true, Bool.not_eq_false, Bool.false_eq_true, Bool.true_eq_false, false_implies, implies_true, b2i_ne, b2i_eq, zB_b2i, not_true_eq_false, not_false_eq_true, List.drop_zero, List.drop_succ_cons, zIn_iff, zI8_iff, or_false, false_or, or_true, true_or, and_false, false_and, Decidable.not_not, laq hL, s153 (d + 10) h, hb, h.2.2.1, hn20, w32s ob, h.2.1, s147 (d + 11) hX, sg_t sl.2.2.2.2.2.2.2.1 k16]
      refine fin 157 _ _ z _ ?_
      rintro v s ⟨⟨a1, a2⟩, a3⟩
      simp only [↓zwq, zpq, zgq, zhq, eq_sto, eq_kill, eq_zSto, eq_mset, eq_zGd, zsq, Int.reduceToNat, List.length_cons, List.length_nil, Nat.reduceAdd, Nat.reduceLT, Nat.reduceEqDiff, Int.reduceLT, Int.reduceLE, Int.reduceEq, Int.reduceNe, Int.reduceNeg, Int.reduceAdd, Int.reduceSub, Int.reduceMul, if_true, if_false, ite_true, ite_false, reduceIte, true_and, and_true, true_implies, forall_const, decide_eq_true_eq, decide_eq_false_iff_not, Bool.not_eq_true', Bool.not_eq_false', Bool.and_eq_true, Bool.or_eq_true, Bool.and_eq_false_iff, Bool.or_eq_false_iff, Bool.not_eq_true, Bool.not_eq_false, Bool.false_eq_true, Bool.true_eq_false, false_implies, implies_true, b2i_ne, b2i_eq, zB_b2i, not_true_eq_false, not_false_eq_true, List.drop_zero, List.drop_succ_cons, zIn_iff, zI8_iff, or_false, false_or, or_true, true_or, and_false, false_and, Decidable.not_not, laq a1, a2, wsub]
      exact a3
    rw [if_neg k16] at key
    by_cases k5 : kdT tp n i = 5
    · rw [if_pos k5] at key
      have z := m158 (d + 3) D0 F hF hE (by omega) hX k5 hN _ T key
      simp only [c_156, b_156, ↓zwq, zpq, zgq, zhq, eq_sto, eq_kill, eq_zSto, eq_mset, eq_zGd, zsq, Int.reduceToNat, List.length_cons, List.length_nil, Nat.reduceAdd, Nat.reduceLT, Nat.reduceEqDiff, Int.reduceLT, Int.reduceLE, Int.reduceEq, Int.reduceNe, Int.reduceNeg, Int.reduceAdd, Int.reduceSub, Int.reduceMul, if_true, if_false, ite_true, ite_false, reduceIte, true_and, and_true, true_implies, forall_const, decide_eq_true_eq, decide_eq_false_iff_not, Bool.not_eq_true', Bool.not_eq_false', Bool.and_eq_true, Bool.or_eq_true, Bool.and_eq_false_iff, Bool.or_eq_false_iff, Bool.not_eq_true, Bool.not_eq_false, Bool.false_eq_true, Bool.true_eq_false, false_implies, implies_true, b2i_ne, b2i_eq, zB_b2i, not_true_eq_false, not_false_eq_true, List.drop_zero, List.drop_succ_cons, zIn_iff, zI8_iff, or_false, false_or, or_true, true_or, and_false, false_and, Decidable.not_not, laq hL, s153 (d + 10) h, hb, h.2.2.1, hn20, w32s ob, h.2.1, s147 (d + 11) hX, sg_f sl.2.2.2.2.2.2.2.1 k16, hin0, Int.toNat_natCast, (h.1.2.1 i hie).1, kk_t kl.2.2.2.2.2.1 k5]
      refine fin 158 _ _ z _ ?_
      rintro v s ⟨⟨a1, a2⟩, a3⟩
      simp only [↓zwq, zpq, zgq, zhq, eq_sto, eq_kill, eq_zSto, eq_mset, eq_zGd, zsq, Int.reduceToNat, List.length_cons, List.length_nil, Nat.reduceAdd, Nat.reduceLT, Nat.reduceEqDiff, Int.reduceLT, Int.reduceLE, Int.reduceEq, Int.reduceNe, Int.reduceNeg, Int.reduceAdd, Int.reduceSub, Int.reduceMul, if_true, if_false, ite_true, ite_false, reduceIte, true_and, and_true, true_implies, forall_const, decide_eq_true_eq, decide_eq_false_iff_not, Bool.not_eq_true', Bool.not_eq_false', Bool.and_eq_true, Bool.or_eq_true, Bool.and_eq_false_iff, Bool.or_eq_false_iff, Bool.not_eq_true, Bool.not_eq_false, Bool.false_eq_true, Bool.true_eq_false, false_implies, implies_true, b2i_ne, b2i_eq, zB_b2i, not_true_eq_false, not_false_eq_true, List.drop_zero, List.drop_succ_cons, zIn_iff, zI8_iff, or_false, false_or, or_true, true_or, and_false, false_and, Decidable.not_not, laq a1, a2, wsub]
      exact a3
    rw [if_neg k5] at key
    by_cases k7 : kdT tp n i = 7
    · rw [if_pos k7] at key
      have z := m160 (d + 3) D0 F hF hE (by omega) hX k7 hN _ T key
      simp only [c_156, b_156, ↓zwq, zpq, zgq, zhq, eq_sto, eq_kill, eq_zSto, eq_mset, eq_zGd, zsq, Int.reduceToNat, List.length_cons, List.length_nil, Nat.reduceAdd, Nat.reduceLT, Nat.reduceEqDiff, Int.reduceLT, Int.reduceLE, Int.reduceEq, Int.reduceNe, Int.reduceNeg, Int.reduceAdd, Int.reduceSub, Int.reduceMul, if_true, if_false, ite_true, ite_false, reduceIte, true_and, and_true, true_implies, forall_const, decide_eq_true_eq, decide_eq_false_iff_not, Bool.not_eq_true', Bool.not_eq_false', Bool.and_eq_true, Bool.or_eq_true, Bool.and_eq_false_iff, Bool.or_eq_false_iff, Bool.not_eq_true, Bool.not_eq_false, Bool.false_eq_true, Bool.true_eq_false, false_implies, implies_true, b2i_ne, b2i_eq, zB_b2i, not_true_eq_false, not_false_eq_true, List.drop_zero, List.drop_succ_cons, zIn_iff, zI8_iff, or_false, false_or, or_true, true_or, and_false, false_and, Decidable.not_not, laq hL, s153 (d + 10) h, hb, h.2.2.1, hn20, w32s ob, h.2.1, s147 (d + 11) hX, sg_f sl.2.2.2.2.2.2.2.1 k16, hin0, Int.toNat_natCast, (h.1.2.1 i hie).1, kk_f kl.2.2.2.2.2.1 k5, kk_t kl.2.2.2.2.2.2.2.1 k7]
      refine fin 160 _ _ z _ ?_
      rintro v s ⟨⟨a1, a2⟩, a3⟩
      simp only [↓zwq, zpq, zgq, zhq, eq_sto, eq_kill, eq_zSto, eq_mset, eq_zGd, zsq, Int.reduceToNat, List.length_cons, List.length_nil, Nat.reduceAdd, Nat.reduceLT, Nat.reduceEqDiff, Int.reduceLT, Int.reduceLE, Int.reduceEq, Int.reduceNe, Int.reduceNeg, Int.reduceAdd, Int.reduceSub, Int.reduceMul, if_true, if_false, ite_true, ite_false, reduceIte, true_and, and_true, true_implies, forall_const, decide_eq_true_eq, decide_eq_false_iff_not, Bool.not_eq_true', Bool.not_eq_false', Bool.and_eq_true, Bool.or_eq_true, Bool.and_eq_false_iff, Bool.or_eq_false_iff, Bool.not_eq_true, Bool.not_eq_false, Bool.false_eq_true, Bool.true_eq_false, false_implies, implies_true, b2i_ne, b2i_eq, zB_b2i, not_true_eq_false, not_false_eq_true, List.drop_zero, List.drop_succ_cons, zIn_iff, zI8_iff, or_false, false_or, or_true, true_or, and_false, false_and, Decidable.not_not, laq a1, a2, wsub]
      exact a3
    · rw [if_neg k7] at key
      have z := m162 d D0 F hF hE hd hX hN _ T key
      simp only [c_156, b_156, ↓zwq, zpq, zgq, zhq, eq_sto, eq_kill, eq_zSto, eq_mset, eq_zGd, zsq, Int.reduceToNat, List.length_cons, List.length_nil, Nat.reduceAdd, Nat.reduceLT, Nat.reduceEqDiff, Int.reduceLT, Int.reduceLE, Int.reduceEq, Int.reduceNe, Int.reduceNeg, Int.reduceAdd, Int.reduceSub, Int.reduceMul, if_true, if_false, ite_true, ite_false, reduceIte, true_and, and_true, true_implies, forall_const, decide_eq_true_eq, decide_eq_false_iff_not, Bool.not_eq_true', Bool.not_eq_false', Bool.and_eq_true, Bool.or_eq_true, Bool.and_eq_false_iff, Bool.or_eq_false_iff, Bool.not_eq_true, Bool.not_eq_false, Bool.false_eq_true, Bool.true_eq_false, false_implies, implies_true, b2i_ne, b2i_eq, zB_b2i, not_true_eq_false, not_false_eq_true, List.drop_zero, List.drop_succ_cons, zIn_iff, zI8_iff, or_false, false_or, or_true, true_or, and_false, false_and, Decidable.not_not, laq hL, s153 (d + 10) h, hb, h.2.2.1, hn20, w32s ob, h.2.1, s147 (d + 11) hX, sg_f sl.2.2.2.2.2.2.2.1 k16, hin0, Int.toNat_natCast, (h.1.2.1 i hie).1, kk_f kl.2.2.2.2.2.1 k5, kk_f kl.2.2.2.2.2.2.2.1 k7]
      refine fin 162 _ _ z _ ?_
      rintro v s ⟨⟨a1, a2⟩, a3⟩
      simp only [↓zwq, zpq, zgq, zhq, eq_sto, eq_kill, eq_zSto, eq_mset, eq_zGd, zsq, Int.reduceToNat, List.length_cons, List.length_nil, Nat.reduceAdd, Nat.reduceLT, Nat.reduceEqDiff, Int.reduceLT, Int.reduceLE, Int.reduceEq, Int.reduceNe, Int.reduceNeg, Int.reduceAdd, Int.reduceSub, Int.reduceMul, if_true, if_false, ite_true, ite_false, reduceIte, true_and, and_true, true_implies, forall_const, decide_eq_true_eq, decide_eq_false_iff_not, Bool.not_eq_true', Bool.not_eq_false', Bool.and_eq_true, Bool.or_eq_true, Bool.and_eq_false_iff, Bool.or_eq_false_iff, Bool.not_eq_true, Bool.not_eq_false, Bool.false_eq_true, Bool.true_eq_false, false_implies, implies_true, b2i_ne, b2i_eq, zB_b2i, not_true_eq_false, not_false_eq_true, List.drop_zero, List.drop_succ_cons, zIn_iff, zI8_iff, or_false, false_or, or_true, true_or, and_false, false_and, Decidable.not_not, laq a1, a2, wsub]
      exact a3
theorem m156z (F : Nat) : HMx tp n e A 5 20 (pEx (kdT tp n) F 0) := by
  intro D hD i N σ R T h hN hR
  obtain ⟨d, rfl⟩ : ∃ d, D = d + 5 := ⟨D - 5, by omega⟩
  have hL := h.lay
  have h20 : σ 90 22 = 20 := h.2.2.1
  unfold pEx at hR
  cases g : bgn (kdT tp n i) with
  | true =>
    rw [g, if_pos rfl] at hR
    simp only [c_156, b_156, ↓zwq, zpq, zgq, zhq, eq_sto, eq_kill, eq_zSto, eq_mset, eq_zGd, zsq, Int.reduceToNat, List.length_cons, List.length_nil, Nat.reduceAdd, Nat.reduceLT, Nat.reduceEqDiff, Int.reduceLT, Int.reduceLE, Int.reduceEq, Int.reduceNe, Int.reduceNeg, Int.reduceAdd, Int.reduceSub, Int.reduceMul, if_true, if_false, ite_true, ite_false, reduceIte, true_and, and_true, true_implies, forall_const, decide_eq_true_eq, decide_eq_false_iff_not, Bool.not_eq_true', Bool.not_eq_false', Bool.and_eq_true, Bool.or_eq_true, Bool.and_eq_false_iff, Bool.or_eq_false_iff, Bool.not_eq_true, Bool.not_eq_false, Bool.false_eq_true, Bool.true_eq_false, false_implies, implies_true, b2i_ne, b2i_eq, zB_b2i, not_true_eq_false, not_false_eq_true, List.drop_zero, List.drop_succ_cons, zIn_iff, zI8_iff, or_false, false_or, or_true, true_or, and_false, false_and, Decidable.not_not, laq hL, h20, s153 (d + 1) h, g, s145 (d + 3) h]
    exact hR _ (MErr.of h 3)
  | false =>
    rw [g, if_neg (by decide)] at hR
    simp only [c_156, b_156, ↓zwq, zpq, zgq, zhq, eq_sto, eq_kill, eq_zSto, eq_mset, eq_zGd, zsq, Int.reduceToNat, List.length_cons, List.length_nil, Nat.reduceAdd, Nat.reduceLT, Nat.reduceEqDiff, Int.reduceLT, Int.reduceLE, Int.reduceEq, Int.reduceNe, Int.reduceNeg, Int.reduceAdd, Int.reduceSub, Int.reduceMul, if_true, if_false, ite_true, ite_false, reduceIte, true_and, and_true, true_implies, forall_const, decide_eq_true_eq, decide_eq_false_iff_not, Bool.not_eq_true', Bool.not_eq_false', Bool.and_eq_true, Bool.or_eq_true, Bool.and_eq_false_iff, Bool.or_eq_false_iff, Bool.not_eq_true, Bool.not_eq_false, Bool.false_eq_true, Bool.true_eq_false, false_implies, implies_true, b2i_ne, b2i_eq, zB_b2i, not_true_eq_false, not_false_eq_true, List.drop_zero, List.drop_succ_cons, zIn_iff, zI8_iff, or_false, false_or, or_true, true_or, and_false, false_and, Decidable.not_not, laq hL, h20, s153 (d + 1) h, g, s145 (d + 3) h]
    exact hR _ (MErr.of h 1)
/-- ex, with k levels left -/
theorem m156 (F : Nat) (hF : e ≤ F) : ∀ k o : Nat, k + o = 20 → HMx tp n e A (5 + 14 * k) o (pEx (kdT tp n) F k)
  | 0, o, h => by cases (show o = 20 by omega); exact m156z F
  | k + 1, o, h => by
    have := m156s (tp := tp) (n := n) (A := A) (o := o) (5 + 14 * k) F hF (by omega) (m156 F hF k (o + 1) (by omega))
    rw [show 5 + 14 * (k + 1) = 5 + 14 * k + 14 by omega]
    exact this
end
