/-! LazyFormsModel's reader: small methods -/
def addM (A N : Nat) (k a b c p : Int) (σ : Mem) : Mem :=
  mset (mset (mset (mset (mset (mset (mset (mset (mset σ 90 10 ((N + 1 : Nat) : Int)) 97 (4000 * A + N) k) 98 (4000 * A + N) a) 99 (4000 * A + N) b) 100 (4000 * A + N) c) 101 (4000 * A + N) (-1)) 102 (4000 * A + N) p) 103 (4000 * A + N) 0) 104 (4000 * A + N) 0
theorem yr_add {A N : Nat} {k a b c p : Int} {σ : Mem} (j q : Nat) : yr (addM A N k a b c p σ) j q = if q = 4000 * A + N then (if j = 0 then k else if j = 1 then a else if j = 2 then b else if j = 3 then c else if j = 4 then -1 else if j = 5 then p else if j = 6 then 0 else if j = 7 then 0 else 0) else yr σ j q := by
  unfold yr
  by_cases hj : j < 8
  · simp only [if_pos hj]
    rcases (show j = 0 ∨ j = 1 ∨ j = 2 ∨ j = 3 ∨ j = 4 ∨ j = 5 ∨ j = 6 ∨ j = 7 by omega) with rfl | rfl | rfl | rfl | rfl | rfl | rfl | rfl <;> simp [addM, eq_mset]
  · simp only [if_neg hj]
    split
    · repeat' split
      all_goals first | omega | rfl
    · rfl
theorem Fr.addM {A N : Nat} {k a b c p : Int} {σ : Mem} : Fr wQ σ (addM A N k a b c p σ) :=
  ((((((((Fr.rf.set (by decide)).set (by simp [wQ])).set (by simp [wQ])).set (by simp [wQ])).set (by simp [wQ])).set (by simp [wQ])).set (by simp [wQ])).set (by simp [wQ])).set (by simp [wQ])
theorem YFr.addM {A N : Nat} {k a b c p : Int} {σ : Mem} (hN : N < 4000) : YFr A N σ (addM A N k a b c p σ) := ⟨Fr.addM, fun f j hj => by rw [yr_add, if_neg (by omega)]⟩
theorem yr_set {σ : Mem} {f k o : Nat} {v : Int} (ho : o = 97 + f) (hf : f < 8) (g j : Nat) : yr (mset σ o k v) g j = if g = f ∧ j = k then v else yr σ g j := by
  unfold yr
  by_cases hg : g < 8
  · simp only [if_pos hg, eq_mset]
    by_cases h1 : g = f
    · subst h1
      rw [if_pos ho.symm]
      by_cases h2 : j = k
      · rw [if_pos h2, if_pos ⟨rfl, h2⟩]
      · rw [if_neg h2, if_neg (fun z => h2 z.2)]
    · rw [if_neg (by omega), if_neg (fun z => h1 z.1)]
  · simp only [if_neg hg]
    rw [if_neg (fun z => by omega)]
theorem YFr.setn {A N : Nat} {σ τ : Mem} {f k o : Nat} {v : Int} (h : YFr A N σ τ) (ho : o = 97 + f) (hf : f < 8) (hk : 4000 * A + N ≤ k) (hk2 : k < 4000 * A + 4000) : YFr A N σ (mset τ o k v) := by
  refine ⟨h.1.set (by simp [wQ]; omega), fun g j hj => ?_⟩
  rw [yr_set ho hf, if_neg (fun z => by omega)]
  exact h.2 g j hj
theorem YFr.at90 {A N b : Nat} {v : Int} {σ : Mem} (hb : b = 6 ∨ b = 22 ∨ b = 10 ∨ b = 19 ∨ b = 20) : YFr A N σ (mset σ 90 b v) := by
  refine ⟨Fr.rf.set (by rcases hb with rfl | rfl | rfl | rfl | rfl <;> rfl), fun f j _ => ?_⟩
  unfold yr
  split
  · rw [eq_mset, if_neg (by omega)]
  · rfl
theorem w32q {A N : Nat} (h : A < 4) (hN : N < 4000) : w32 (w32 (4000 * (A : Int)) + (N : Int)) = ((4000 * A + N : Nat) : Int) := by
  have e1 : w32 (4000 * (A : Int)) = ((4000 * A : Nat) : Int) := by unfold w32; omega
  rw [e1]
  exact w32add (by omega)
theorem adq (A N : Nat) (k a b c p : Int) (σ : Mem) : (addM A N k a b c p σ 90 4 = σ 90 4) ∧ (addM A N k a b c p σ 90 6 = σ 90 6) ∧ (addM A N k a b c p σ 90 7 = σ 90 7) ∧ (addM A N k a b c p σ 90 8 = σ 90 8) ∧ (addM A N k a b c p σ 90 9 = σ 90 9) ∧ (addM A N k a b c p σ 90 11 = σ 90 11) ∧ (addM A N k a b c p σ 90 12 = σ 90 12) ∧ (addM A N k a b c p σ 90 13 = σ 90 13) ∧ (addM A N k a b c p σ 90 14 = σ 90 14) ∧ (addM A N k a b c p σ 90 15 = σ 90 15) ∧ (addM A N k a b c p σ 90 16 = σ 90 16) ∧ (addM A N k a b c p σ 90 17 = σ 90 17) ∧ (addM A N k a b c p σ 90 18 = σ 90 18) ∧ (addM A N k a b c p σ 90 22 = σ 90 22) ∧ (addM A N k a b c p σ 90 23 = σ 90 23) ∧ (addM A N k a b c p σ 90 24 = σ 90 24) ∧ (∀ j, addM A N k a b c p σ 94 j = σ 94 j) ∧ (∀ j, addM A N k a b c p σ 95 j = σ 95 j) ∧ (∀ j, addM A N k a b c p σ 96 j = σ 96 j) := ⟨rfl, rfl, rfl, rfl, rfl, rfl, rfl, rfl, rfl, rfl, rfl, rfl, rfl, rfl, rfl, rfl, fun _ => rfl, fun _ => rfl, fun _ => rfl⟩
section
variable {tp : Nat → Int} {n e A i o N : Nat} {σ : Mem}
theorem MP.lay (h : MP tp n e A i o N σ) : Lay σ := h.1.1.1
theorem MP.setn (h : MP tp n e A i o N σ) {f k a : Nat} {v : Int} (ha : a = 97 + f) (hf : f < 8) : MP tp n e A i o N (mset σ a k v) := by
  obtain ⟨hS, a4, a5, a8, hi⟩ := h
  have h90 : a ≠ 90 := by omega
  refine ⟨hS.fr (Fr.rf.set (by simp [wQ]; omega)), ?_, ?_, ?_, hi⟩
  · rw [eq_mset, if_neg (Ne.symm h90)]; exact a4
  · rw [eq_mset, if_neg (Ne.symm h90)]; exact a5
  · rw [eq_mset, if_neg (Ne.symm h90)]; exact a8
theorem MP.next (h : MP tp n e A i o N σ) (hi : i < e) : MP tp n e A (i + 1) o N (mset σ 90 6 ((i + 1 : Nat) : Int)) := by
  obtain ⟨hS, a4, a5, a8, -⟩ := h
  exact ⟨hS.fr (Fr.rf.set (by decide)), by simp [eq_mset], by simp [eq_mset, a5], by simp [eq_mset, a8], hi⟩
theorem MP.addM (h : MP tp n e A i o N σ) (k a b c p : Int) : MP tp n e A i o (N + 1) (addM A N k a b c p σ) := by
  obtain ⟨hS, a4, a5, a8, hi⟩ := h
  exact ⟨hS.fr Fr.addM, a4, a5, rfl, hi⟩
theorem MP.lt (h : MP tp n e A i o N σ) (hk : 2 ≤ kdT tp n i) : i < e := by
  refine Nat.lt_of_le_of_ne h.2.2.2.2 fun z => ?_
  have := h.1.2.2.2.1
  rw [← z] at this; omega
theorem s144 (d : Nat) (h : MP tp n e A i o N σ) (hN : N < 4000) {q : Nat} (hq : q ≤ e) (k a b c : Int) (R T : zK) : zCallD (d + 1) 144 [90, k, a, b, c, (q : Int)] σ R T = R ((4000 * A + N : Nat) : Int) (addM A N k a b c (ppT tp n A q) σ) := by
  have hL := h.lay
  have hA := h.1.1.2.2.1
  have he := h.1.2.2.1
  have hin : (0 : Int) ≤ ((4000 * A + N : Nat) : Int) ∧ ((4000 * A + N : Nat) : Int) < ((16000 : Nat) : Int) := by omega
  have hin2 : (0 : Int) ≤ (q : Int) ∧ (q : Int) < ((2010 : Nat) : Int) := by omega
  simp only [c_144, b_144, ↓zwq, zpq, zgq, zhq, eq_sto, eq_kill, eq_zSto, eq_mset, eq_zGd, zsq, Int.reduceToNat, List.length_cons, List.length_nil, Nat.reduceAdd, Nat.reduceLT, Nat.reduceEqDiff, Int.reduceLT, Int.reduceLE, Int.reduceEq, Int.reduceNe, Int.reduceNeg, Int.reduceAdd, Int.reduceSub, Int.reduceMul, if_true, if_false, ite_true, ite_false, reduceIte, true_and, and_true, true_implies, forall_const, decide_eq_true_eq, decide_eq_false_iff_not, Bool.not_eq_true', Bool.not_eq_false', Bool.and_eq_true, Bool.or_eq_true, Bool.and_eq_false_iff, Bool.or_eq_false_iff, Bool.not_eq_true, Bool.not_eq_false, Bool.false_eq_true, Bool.true_eq_false, false_implies, implies_true, b2i_ne, b2i_eq, zB_b2i, not_true_eq_false, not_false_eq_true, List.drop_zero, List.drop_succ_cons, zIn_iff, zI8_iff, or_false, false_or, or_true, true_or, and_false, false_and, Decidable.not_not, laq hL, h.1.1.2.1, h.2.2.2.1, w32q hA hN, w32s (show N < 2147483647 by omega), hin, hin2, Int.toNat_natCast, (h.1.2.1 q hq).2.1]
  rfl
theorem w32pl {A p : Nat} (h : A < 4) (hp : p ≤ 2000) : w32 (((2000 * A + p : Nat) : Int) - w32 (2000 * (A : Int))) = (p : Int) := by
  rw [w32mul h, w32_id (by omega) (by omega)]; omega
theorem s145 (d : Nat) (h : MP tp n e A i o N σ) (f : Int) (R T : zK) : zCallD (d + 1) 145 [90, f] σ R T = R 3 (mset (mset σ 90 19 f) 90 20 (plT tp n i)) := by
  have hL := h.lay
  have he := h.1.2.2.1
  have hie := h.2.2.2.2
  have hin2 : (0 : Int) ≤ (i : Int) ∧ (i : Int) < ((2010 : Nat) : Int) := by omega
  have hpl : plc tp n i ≤ 2000 := Nat.le_trans (plc_le tp n i) h.1.1.2.2.2.2.1
  have ew : w32 (ppT tp n A i - w32 (2000 * (A : Int))) = plT tp n i := w32pl h.1.1.2.2.1 hpl
  simp only [c_145, b_145, ↓zwq, zpq, zgq, zhq, eq_sto, eq_kill, eq_zSto, eq_mset, eq_zGd, zsq, Int.reduceToNat, List.length_cons, List.length_nil, Nat.reduceAdd, Nat.reduceLT, Nat.reduceEqDiff, Int.reduceLT, Int.reduceLE, Int.reduceEq, Int.reduceNe, Int.reduceNeg, Int.reduceAdd, Int.reduceSub, Int.reduceMul, if_true, if_false, ite_true, ite_false, reduceIte, true_and, and_true, true_implies, forall_const, decide_eq_true_eq, decide_eq_false_iff_not, Bool.not_eq_true', Bool.not_eq_false', Bool.and_eq_true, Bool.or_eq_true, Bool.and_eq_false_iff, Bool.or_eq_false_iff, Bool.not_eq_true, Bool.not_eq_false, Bool.false_eq_true, Bool.true_eq_false, false_implies, implies_true, b2i_ne, b2i_eq, zB_b2i, not_true_eq_false, not_false_eq_true, List.drop_zero, List.drop_succ_cons, zIn_iff, zI8_iff, or_false, false_or, or_true, true_or, and_false, false_and, Decidable.not_not, laq hL, h.2.1, h.1.1.2.1, hin2, Int.toNat_natCast, (h.1.2.1 i hie).2.1, ew]
  rfl
theorem MErr.of (h : MP tp n e A i o N σ) (f : Nat) : MErr tp n f i σ (mset (mset σ 90 19 (f : Int)) 90 20 (plT tp n i)) :=
  ⟨(Fr.rf.set (by decide)).set (by decide), by simp [eq_mset], by simp [eq_mset]⟩
theorem MErr.pre {τ : Mem} {f j : Nat} (h : YFr A N σ τ) : ∀ {υ : Mem}, MErr tp n f j τ υ → MErr tp n f j σ υ := fun g => ⟨h.1.tr g.1, g.2⟩
theorem s146 (d : Nat) (h : MP tp n e A i o N σ) (v : Int) (R T : zK) : zCallD (d + 1) 146 [90, v] σ R T = R (b2i (isSg (kdT tp n i) v)) σ := by
  have hL := h.lay
  have he := h.1.2.2.1
  have hie := h.2.2.2.2
  have hin2 : (0 : Int) ≤ (i : Int) ∧ (i : Int) < ((2010 : Nat) : Int) := by omega
  have hb := h.1.2.1 i hie
  have h5 : (((mKd (kdT tp n i) : Nat) : Int) = 5) = (9 ≤ kdT tp n i) := by
    have := kdT_le tp n i
    exact propext ((show ∀ k : Fin 25, ((((mKd k.val : Nat) : Int) = 5) ↔ 9 ≤ k.val) by decide) ⟨kdT tp n i, by omega⟩)
  simp only [c_146, b_146, ↓zwq, zpq, zgq, zhq, eq_sto, eq_kill, eq_zSto, eq_mset, eq_zGd, zsq, Int.reduceToNat, List.length_cons, List.length_nil, Nat.reduceAdd, Nat.reduceLT, Nat.reduceEqDiff, Int.reduceLT, Int.reduceLE, Int.reduceEq, Int.reduceNe, Int.reduceNeg, Int.reduceAdd, Int.reduceSub, Int.reduceMul, if_true, if_false, ite_true, ite_false, reduceIte, true_and, and_true, true_implies, forall_const, decide_eq_true_eq, decide_eq_false_iff_not, Bool.not_eq_true', Bool.not_eq_false', Bool.and_eq_true, Bool.or_eq_true, Bool.and_eq_false_iff, Bool.or_eq_false_iff, Bool.not_eq_true, Bool.not_eq_false, Bool.false_eq_true, Bool.true_eq_false, false_implies, implies_true, b2i_ne, b2i_eq, zB_b2i, not_true_eq_false, not_false_eq_true, List.drop_zero, List.drop_succ_cons, zIn_iff, zI8_iff, or_false, false_or, or_true, true_or, and_false, false_and, Decidable.not_not, laq hL, h.2.1, hin2, Int.toNat_natCast, hb.1, h5, implies_true]
  unfold isSg
  by_cases g : 9 ≤ kdT tp n i
  · rw [hb.2.2 (by omega)]
    have : tvT tp n A i = mVl (kdT tp n i) := by exact if_pos g
    rw [this]
  · simp only [g, decide_false, Bool.false_and]
theorem s147 (d : Nat) (h : MP tp n e A i o N σ) (v : Int) (R T : zK) : zCallD (d + 2) 147 [90, v] σ R T = ((isSg (kdT tp n i) v = true → R 1 (mset σ 90 6 ((i + 1 : Nat) : Int))) ∧ (isSg (kdT tp n i) v = false → R 0 σ)) := by
  have hL := h.lay
  have he := h.1.2.2.1
  have hie := h.2.2.2.2
  have zb1 : zB 1 = True := eq_true (Or.inr rfl)
  have zb0 : zB 0 = True := eq_true (Or.inl rfl)
  simp only [c_147, b_147, ↓zwq, zpq, zgq, zhq, eq_sto, eq_kill, eq_zSto, eq_mset, eq_zGd, zsq, Int.reduceToNat, List.length_cons, List.length_nil, Nat.reduceAdd, Nat.reduceLT, Nat.reduceEqDiff, Int.reduceLT, Int.reduceLE, Int.reduceEq, Int.reduceNe, Int.reduceNeg, Int.reduceAdd, Int.reduceSub, Int.reduceMul, if_true, if_false, ite_true, ite_false, reduceIte, true_and, and_true, true_implies, forall_const, decide_eq_true_eq, decide_eq_false_iff_not, Bool.not_eq_true', Bool.not_eq_false', Bool.and_eq_true, Bool.or_eq_true, Bool.and_eq_false_iff, Bool.or_eq_false_iff, Bool.not_eq_true, Bool.not_eq_false, Bool.false_eq_true, Bool.true_eq_false, false_implies, implies_true, b2i_ne, b2i_eq, zB_b2i, not_true_eq_false, not_false_eq_true, List.drop_zero, List.drop_succ_cons, zIn_iff, zI8_iff, or_false, false_or, or_true, true_or, and_false, false_and, Decidable.not_not, laq hL, h.2.1, s146 d h, w32s (show i < 2147483647 by omega)]
  cases isSg (kdT tp n i) v <;> simp [b2i, zb1, zb0]
theorem s148 (d : Nat) (h : MP tp n e A i o N σ) (v : Int) (R T : zK) : zCallD (d + 3) 148 [90, v] σ R T = ((isSg (kdT tp n i) v = true → R 0 (mset σ 90 6 ((i + 1 : Nat) : Int))) ∧ (isSg (kdT tp n i) v = false → T 3 (mset (mset σ 90 19 1) 90 20 (plT tp n i)))) := by
  have hL := h.lay
  simp only [c_148, b_148, ↓zwq, zpq, zgq, zhq, eq_sto, eq_kill, eq_zSto, eq_mset, eq_zGd, zsq, Int.reduceToNat, List.length_cons, List.length_nil, Nat.reduceAdd, Nat.reduceLT, Nat.reduceEqDiff, Int.reduceLT, Int.reduceLE, Int.reduceEq, Int.reduceNe, Int.reduceNeg, Int.reduceAdd, Int.reduceSub, Int.reduceMul, if_true, if_false, ite_true, ite_false, reduceIte, true_and, and_true, true_implies, forall_const, decide_eq_true_eq, decide_eq_false_iff_not, Bool.not_eq_true', Bool.not_eq_false', Bool.and_eq_true, Bool.or_eq_true, Bool.and_eq_false_iff, Bool.or_eq_false_iff, Bool.not_eq_true, Bool.not_eq_false, Bool.false_eq_true, Bool.true_eq_false, false_implies, implies_true, b2i_ne, b2i_eq, zB_b2i, not_true_eq_false, not_false_eq_true, List.drop_zero, List.drop_succ_cons, zIn_iff, zI8_iff, or_false, false_or, or_true, true_or, and_false, false_and, Decidable.not_not, laq hL, s147 d h, s145 (d + 1) h]
theorem s149 (d : Nat) (h : MP tp n e A i o N σ) (k : Int) (R T : zK) : zCallD (d + 2) 149 [90, k] σ R T = ((((mKd (kdT tp n i) : Nat) : Int) = k → R 0 (mset σ 90 6 ((i + 1 : Nat) : Int))) ∧ (¬ ((mKd (kdT tp n i) : Nat) : Int) = k → T 3 (mset (mset σ 90 19 1) 90 20 (plT tp n i)))) := by
  have hL := h.lay
  have he := h.1.2.2.1
  have hie := h.2.2.2.2
  have hin2 : (0 : Int) ≤ (i : Int) ∧ (i : Int) < ((2010 : Nat) : Int) := by omega
  have hb := h.1.2.1 i hie
  simp only [c_149, b_149, ↓zwq, zpq, zgq, zhq, eq_sto, eq_kill, eq_zSto, eq_mset, eq_zGd, zsq, Int.reduceToNat, List.length_cons, List.length_nil, Nat.reduceAdd, Nat.reduceLT, Nat.reduceEqDiff, Int.reduceLT, Int.reduceLE, Int.reduceEq, Int.reduceNe, Int.reduceNeg, Int.reduceAdd, Int.reduceSub, Int.reduceMul, if_true, if_false, ite_true, ite_false, reduceIte, true_and, and_true, true_implies, forall_const, decide_eq_true_eq, decide_eq_false_iff_not, Bool.not_eq_true', Bool.not_eq_false', Bool.and_eq_true, Bool.or_eq_true, Bool.and_eq_false_iff, Bool.or_eq_false_iff, Bool.not_eq_true, Bool.not_eq_false, Bool.false_eq_true, Bool.true_eq_false, false_implies, implies_true, b2i_ne, b2i_eq, zB_b2i, not_true_eq_false, not_false_eq_true, List.drop_zero, List.drop_succ_cons, zIn_iff, zI8_iff, or_false, false_or, or_true, true_or, and_false, false_and, Decidable.not_not, laq hL, h.2.1, hin2, Int.toNat_natCast, hb.1, s145 d h, w32s (show i < 2147483647 by omega)]
  exact propext And.comm
theorem s155 (d : Nat) (h : MP tp n e A i o N σ) (R T : zK) : zCallD (d + 2) 155 [90] σ R T = R (b2i (isAt (kdT tp n i))) σ := by
  have hL := h.lay
  have he := h.1.2.2.1
  have hie := h.2.2.2.2
  have hin2 : (0 : Int) ≤ (i : Int) ∧ (i : Int) < ((2010 : Nat) : Int) := by omega
  have hb := h.1.2.1 i hie
  simp only [c_155, b_155, ↓zwq, zpq, zgq, zhq, eq_sto, eq_kill, eq_zSto, eq_mset, eq_zGd, zsq, Int.reduceToNat, List.length_cons, List.length_nil, Nat.reduceAdd, Nat.reduceLT, Nat.reduceEqDiff, Int.reduceLT, Int.reduceLE, Int.reduceEq, Int.reduceNe, Int.reduceNeg, Int.reduceAdd, Int.reduceSub, Int.reduceMul, if_true, if_false, ite_true, ite_false, reduceIte, true_and, and_true, true_implies, forall_const, decide_eq_true_eq, decide_eq_false_iff_not, Bool.not_eq_true', Bool.not_eq_false', Bool.and_eq_true, Bool.or_eq_true, Bool.and_eq_false_iff, Bool.or_eq_false_iff, Bool.not_eq_true, Bool.not_eq_false, Bool.false_eq_true, Bool.true_eq_false, false_implies, implies_true, b2i_ne, b2i_eq, zB_b2i, not_true_eq_false, not_false_eq_true, List.drop_zero, List.drop_succ_cons, zIn_iff, zI8_iff, or_false, false_or, or_true, true_or, and_false, false_and, Decidable.not_not, laq hL, h.2.1, hin2, Int.toNat_natCast, hb.1, s146 d h, klit tp n i, slit tp n i]
  unfold isAt
  by_cases h2 : kdT tp n i = 2
  · simp [h2]
  by_cases h4 : kdT tp n i = 4
  · simp [h4]
  by_cases h3 : kdT tp n i = 3
  · simp [h3]
  simp [h2, h4, h3]
theorem s153 (d : Nat) (h : MP tp n e A i o N σ) (R T : zK) : zCallD (d + 3) 153 [90] σ R T = R (b2i (bgn (kdT tp n i))) σ := by
  have hL := h.lay
  have he := h.1.2.2.1
  have hie := h.2.2.2.2
  have hin2 : (0 : Int) ≤ (i : Int) ∧ (i : Int) < ((2010 : Nat) : Int) := by omega
  have hb := h.1.2.1 i hie
  simp only [c_153, b_153, ↓zwq, zpq, zgq, zhq, eq_sto, eq_kill, eq_zSto, eq_mset, eq_zGd, zsq, Int.reduceToNat, List.length_cons, List.length_nil, Nat.reduceAdd, Nat.reduceLT, Nat.reduceEqDiff, Int.reduceLT, Int.reduceLE, Int.reduceEq, Int.reduceNe, Int.reduceNeg, Int.reduceAdd, Int.reduceSub, Int.reduceMul, if_true, if_false, ite_true, ite_false, reduceIte, true_and, and_true, true_implies, forall_const, decide_eq_true_eq, decide_eq_false_iff_not, Bool.not_eq_true', Bool.not_eq_false', Bool.and_eq_true, Bool.or_eq_true, Bool.and_eq_false_iff, Bool.or_eq_false_iff, Bool.not_eq_true, Bool.not_eq_false, Bool.false_eq_true, Bool.true_eq_false, false_implies, implies_true, b2i_ne, b2i_eq, zB_b2i, not_true_eq_false, not_false_eq_true, List.drop_zero, List.drop_succ_cons, zIn_iff, zI8_iff, or_false, false_or, or_true, true_or, and_false, false_and, Decidable.not_not, laq hL, h.2.1, hin2, Int.toNat_natCast, hb.1, s146 (d + 1) h, s155 d h, klit tp n i, slit tp n i]
  unfold bgn
  by_cases h2 : kdT tp n i = 5
  · simp [h2, isAt]
  by_cases h4 : kdT tp n i = 7
  · simp [h4, isAt]
  by_cases h3 : kdT tp n i = 16
  · simp [h3, isAt]
  simp [h2, h4, h3]
end
