/-! LazyFormsModel's text: bytes, blanks -/
def chm (tp : Nat → Int) (n k : Nat) : Int := if k < n then tp k % 256 else -1
theorem chm_ge (tp : Nat → Int) (n k : Nat) : (0 ≤ chm tp n k) = (k < n) := by
  unfold chm
  split
  · next h => exact propext ⟨fun _ => h, fun _ => Int.emod_nonneg _ (by decide)⟩
  · next h => exact propext ⟨fun z => absurd z (by decide), fun z => absurd z h⟩
theorem chm_lt0 (tp : Nat → Int) (n k : Nat) : (chm tp n k < 0) = ¬ (k < n) := by
  rw [← chm_ge tp n k, Int.not_le]
theorem chm_pos {tp : Nat → Int} {n k : Nat} (h : k < n) : chm tp n k = chr tp n k := by unfold chm chr; rw [if_pos h, if_pos h]
theorem chm_neg {tp : Nat → Int} {n k : Nat} (h : ¬ k < n) : chm tp n k = -1 ∧ chr tp n k = 0 := by unfold chm chr; rw [if_neg h, if_neg h]; exact ⟨rfl, rfl⟩
theorem chm_is (tp : Nat → Int) (n k : Nat) {c : Int} (hc : 0 < c) : (chm tp n k = c) = (chr tp n k = c) := by
  by_cases h : k < n
  · rw [chm_pos h]
  · rw [(chm_neg h).1, (chm_neg h).2]; exact propext ⟨fun z => by omega, fun z => by omega⟩
theorem chm_S (tp : Nat → Int) (n k : Nat) : isS (chm tp n k) = isS (chr tp n k) := by
  by_cases h : k < n
  · rw [chm_pos h]
  · rw [(chm_neg h).1, (chm_neg h).2]; rfl
theorem chm_G (tp : Nat → Int) (n k : Nat) : isG (chm tp n k) = isG (chr tp n k) := by
  by_cases h : k < n
  · rw [chm_pos h]
  · rw [(chm_neg h).1, (chm_neg h).2]; rfl
theorem chm_D (tp : Nat → Int) (n k : Nat) : isD (chm tp n k) = isD (chr tp n k) := by
  by_cases h : k < n
  · rw [chm_pos h]
  · rw [(chm_neg h).1, (chm_neg h).2]; rfl
theorem chm_W (tp : Nat → Int) (n k : Nat) : sWd (chm tp n k) = sWd (chr tp n k) := by
  by_cases h : k < n
  · rw [chm_pos h]
  · rw [(chm_neg h).1, (chm_neg h).2]; rfl
def MT (tp : Nat → Int) (n A : Nat) (σ : Mem) : Prop := Lay σ ∧ σ 90 4 = (A : Int) ∧ A < 4 ∧ σ 93 A = (n : Int) ∧ n ≤ 2000 ∧ (∀ i, i < n → σ 92 (2000 * A + i) = tp i) ∧ ∀ i, i < n → -128 ≤ tp i ∧ tp i < 128
theorem w32mul {A : Nat} (h : A < 4) : w32 (2000 * (A : Int)) = ((2000 * A : Nat) : Int) := by unfold w32; omega
theorem s129 (d : Nat) {tp : Nat → Int} {n A k : Nat} {σ : Mem} (h : MT tp n A σ) (R T : zK) : zCallD (d + 1) 129 [90, ((2000 * A + k : Nat) : Int)] σ R T = R (chm tp n k) σ := by
  obtain ⟨hL, h1, h2, h3, h4, h5, -⟩ := h
  have e1 := w32mul h2
  have e2 : w32 (((2000 * A : Nat) : Int) + (n : Int)) = ((2000 * A + n : Nat) : Int) := w32add (by omega)
  have e3 : (0 : Int) ≤ (A : Int) ∧ (A : Int) < ((4 : Nat) : Int) := by omega
  simp only [c_129, b_129, ↓zwq, zpq, zgq, zhq, eq_sto, eq_kill, eq_zSto, eq_mset, eq_zGd, zsq, Int.reduceToNat, List.length_cons, List.length_nil, Nat.reduceAdd, Nat.reduceLT, Nat.reduceEqDiff, Int.reduceLT, Int.reduceLE, Int.reduceEq, Int.reduceNe, Int.reduceNeg, Int.reduceAdd, Int.reduceSub, Int.reduceMul, if_true, if_false, ite_true, ite_false, reduceIte, true_and, and_true, true_implies, forall_const, decide_eq_true_eq, decide_eq_false_iff_not, Bool.not_eq_true', Bool.not_eq_false', Bool.and_eq_true, Bool.or_eq_true, Bool.and_eq_false_iff, Bool.or_eq_false_iff, Bool.not_eq_true, Bool.not_eq_false, Bool.false_eq_true, Bool.true_eq_false, false_implies, implies_true, b2i_ne, b2i_eq, zB_b2i, not_true_eq_false, not_false_eq_true, List.drop_zero, List.drop_succ_cons, zIn_iff, zI8_iff, laq hL, h1, h3, e1, e2, e3, iAnd255, Int.toNat_natCast]
  clear e1 e2
  have e : (if ((2000 * A + k : Nat) : Int) < ((2000 * A + n : Nat) : Int) then σ 92 (2000 * A + k) % 256 else -1) = chm tp n k := by
    unfold chm
    by_cases q : k < n
    · rw [if_pos q, if_pos (by omega), h5 k q]
    · rw [if_neg q, if_neg (by omega)]
  rw [e]
  exact propext ⟨fun q => q.2, fun q => ⟨fun _ => by omega, q⟩⟩
theorem s131 (d : Nat) (c : Int) (σ : Mem) (R T : zK) : zCallD (d + 1) 131 [c] σ R T = R (b2i (isS c)) σ := by
  simp only [c_131, b_131, ↓zwq, zpq, zgq, zhq, eq_sto, eq_kill, eq_zSto, eq_mset, eq_zGd, zsq, Int.reduceToNat, List.length_cons, List.length_nil, Nat.reduceAdd, Nat.reduceLT, Nat.reduceEqDiff, Int.reduceLT, Int.reduceLE, Int.reduceEq, Int.reduceNe, Int.reduceNeg, Int.reduceAdd, Int.reduceSub, Int.reduceMul, if_true, if_false, ite_true, ite_false, reduceIte, true_and, and_true, true_implies, forall_const, decide_eq_true_eq, decide_eq_false_iff_not, Bool.not_eq_true', Bool.not_eq_false', Bool.and_eq_true, Bool.or_eq_true, Bool.and_eq_false_iff, Bool.or_eq_false_iff, Bool.not_eq_true, Bool.not_eq_false, Bool.false_eq_true, Bool.true_eq_false, false_implies, implies_true, b2i_ne, b2i_eq, zB_b2i, not_true_eq_false, not_false_eq_true, List.drop_zero, List.drop_succ_cons, zIn_iff, zI8_iff]; rfl
theorem s132 (d : Nat) (c : Int) (σ : Mem) (R T : zK) : zCallD (d + 1) 132 [c] σ R T = R (b2i (isG c)) σ := by
  simp only [c_132, b_132, ↓zwq, zpq, zgq, zhq, eq_sto, eq_kill, eq_zSto, eq_mset, eq_zGd, zsq, Int.reduceToNat, List.length_cons, List.length_nil, Nat.reduceAdd, Nat.reduceLT, Nat.reduceEqDiff, Int.reduceLT, Int.reduceLE, Int.reduceEq, Int.reduceNe, Int.reduceNeg, Int.reduceAdd, Int.reduceSub, Int.reduceMul, if_true, if_false, ite_true, ite_false, reduceIte, true_and, and_true, true_implies, forall_const, decide_eq_true_eq, decide_eq_false_iff_not, Bool.not_eq_true', Bool.not_eq_false', Bool.and_eq_true, Bool.or_eq_true, Bool.and_eq_false_iff, Bool.or_eq_false_iff, Bool.not_eq_true, Bool.not_eq_false, Bool.false_eq_true, Bool.true_eq_false, false_implies, implies_true, b2i_ne, b2i_eq, zB_b2i, not_true_eq_false, not_false_eq_true, List.drop_zero, List.drop_succ_cons, zIn_iff, zI8_iff]; rfl
theorem s133 (d : Nat) (c : Int) (σ : Mem) (R T : zK) : zCallD (d + 1) 133 [c] σ R T = R (b2i (isD c)) σ := by
  simp only [c_133, b_133, ↓zwq, zpq, zgq, zhq, eq_sto, eq_kill, eq_zSto, eq_mset, eq_zGd, zsq, Int.reduceToNat, List.length_cons, List.length_nil, Nat.reduceAdd, Nat.reduceLT, Nat.reduceEqDiff, Int.reduceLT, Int.reduceLE, Int.reduceEq, Int.reduceNe, Int.reduceNeg, Int.reduceAdd, Int.reduceSub, Int.reduceMul, if_true, if_false, ite_true, ite_false, reduceIte, true_and, and_true, true_implies, forall_const, decide_eq_true_eq, decide_eq_false_iff_not, Bool.not_eq_true', Bool.not_eq_false', Bool.and_eq_true, Bool.or_eq_true, Bool.and_eq_false_iff, Bool.or_eq_false_iff, Bool.not_eq_true, Bool.not_eq_false, Bool.false_eq_true, Bool.true_eq_false, false_implies, implies_true, b2i_ne, b2i_eq, zB_b2i, not_true_eq_false, not_false_eq_true, List.drop_zero, List.drop_succ_cons, zIn_iff, zI8_iff]; rfl
theorem s134 (d : Nat) (c : Int) (σ : Mem) (R T : zK) : zCallD (d + 2) 134 [c] σ R T = R (b2i (sWd c)) σ := by
  simp only [c_134, b_134, s131, s132, s133, ↓zwq, zpq, zgq, zhq, eq_sto, eq_kill, eq_zSto, eq_mset, eq_zGd, zsq, Int.reduceToNat, List.length_cons, List.length_nil, Nat.reduceAdd, Nat.reduceLT, Nat.reduceEqDiff, Int.reduceLT, Int.reduceLE, Int.reduceEq, Int.reduceNe, Int.reduceNeg, Int.reduceAdd, Int.reduceSub, Int.reduceMul, if_true, if_false, ite_true, ite_false, reduceIte, true_and, and_true, true_implies, forall_const, decide_eq_true_eq, decide_eq_false_iff_not, Bool.not_eq_true', Bool.not_eq_false', Bool.and_eq_true, Bool.or_eq_true, Bool.and_eq_false_iff, Bool.or_eq_false_iff, Bool.not_eq_true, Bool.not_eq_false, Bool.false_eq_true, Bool.true_eq_false, false_implies, implies_true, b2i_ne, b2i_eq, zB_b2i, not_true_eq_false, not_false_eq_true, List.drop_zero, List.drop_succ_cons, zIn_iff, zI8_iff]
  unfold sWd
  cases isS c <;> cases isG c <;> cases isD c <;> simp
theorem s130 (d : Nat) (v a b : Int) (σ : Mem) (R T : zK) : zCallD (d + 1) 130 [v, a, b] σ R T = R (b2i (decide (a ≤ v) && decide (v ≤ b))) σ := by
  simp only [c_130, b_130, ↓zwq, zpq, zgq, zhq, eq_sto, eq_kill, eq_zSto, eq_mset, eq_zGd, zsq, Int.reduceToNat, List.length_cons, List.length_nil, Nat.reduceAdd, Nat.reduceLT, Nat.reduceEqDiff, Int.reduceLT, Int.reduceLE, Int.reduceEq, Int.reduceNe, Int.reduceNeg, Int.reduceAdd, Int.reduceSub, Int.reduceMul, if_true, if_false, ite_true, ite_false, reduceIte, true_and, and_true, true_implies, forall_const, decide_eq_true_eq, decide_eq_false_iff_not, Bool.not_eq_true', Bool.not_eq_false', Bool.and_eq_true, Bool.or_eq_true, Bool.and_eq_false_iff, Bool.or_eq_false_iff, Bool.not_eq_true, Bool.not_eq_false, Bool.false_eq_true, Bool.true_eq_false, false_implies, implies_true, b2i_ne, b2i_eq, zB_b2i, not_true_eq_false, not_false_eq_true, List.drop_zero, List.drop_succ_cons, zIn_iff, zI8_iff]
theorem w32b {b q : Nat} (h : b + q < 2147483640) : w32 (((b + q : Nat) : Int) + 1) = ((b + (q + 1) : Nat) : Int) := by unfold w32; omega
theorem s135 (d : Nat) {tp : Nat → Int} {n A p : Nat} {σ : Mem} (h : MT tp n A σ) (hp : p ≤ n) (R T : zK) (hR : R ((2000 * A + skp tp n p : Nat) : Int) σ) : zCallD (d + 2) 135 [90, ((2000 * A + p : Nat) : Int)] σ R T := by
  have ⟨hL, h1, h2, h3, h4, h5, h6⟩ := h
  simp only [c_135, b_135, ↓zwq, zpq, zgq, zhq, eq_sto, eq_kill, eq_zSto, eq_mset, eq_zGd, zsq, Int.reduceToNat, List.length_cons, List.length_nil, Nat.reduceAdd, Nat.reduceLT, Nat.reduceEqDiff, Int.reduceLT, Int.reduceLE, Int.reduceEq, Int.reduceNe, Int.reduceNeg, Int.reduceAdd, Int.reduceSub, Int.reduceMul, if_true, if_false, ite_true, ite_false, reduceIte, true_and, and_true, true_implies, forall_const, decide_eq_true_eq, decide_eq_false_iff_not, Bool.not_eq_true', Bool.not_eq_false', Bool.and_eq_true, Bool.or_eq_true, Bool.and_eq_false_iff, Bool.or_eq_false_iff, Bool.not_eq_true, Bool.not_eq_false, Bool.false_eq_true, Bool.true_eq_false, false_implies, implies_true, b2i_ne, b2i_eq, zB_b2i, not_true_eq_false, not_false_eq_true, List.drop_zero, List.drop_succ_cons, zIn_iff, zI8_iff, laq hL]
  refine lpW (fun m e s => ∃ q : Nat, q ≤ n ∧ skp tp n q = skp tp n p ∧ s = σ ∧ ((m = n - q + 1 ∧ e = [(3, 90), (1, ((2000 * A + p : Nat) : Int)), (1, ((2000 * A + q : Nat) : Int)), (1, 1)]) ∨ (m = 0 ∧ skp tp n q = q ∧ e = [(3, 90), (1, ((2000 * A + p : Nat) : Int)), (1, ((2000 * A + q : Nat) : Int)), (1, 0)]))) ?_ (n - p + 1) _ _ ⟨p, hp, rfl, rfl, Or.inl ⟨rfl, rfl⟩⟩
  rintro m e s ⟨q, hq, hs, rfl, ⟨rfl, rfl⟩ | ⟨rfl, hs2, rfl⟩⟩
  · have e1 : w32 (((2000 * A + q : Nat) : Int) + 1) = ((2000 * A + (q + 1) : Nat) : Int) := w32b (by omega)
    have i32 := chm_is tp n q (c := 32) (by decide)
    have i10 := chm_is tp n q (c := 10) (by decide)
    have i45 := chm_is tp n q (c := 45) (by decide)
    have j45 := chm_is tp n (q + 1) (c := 45) (by decide)
    by_cases c32 : chr tp n q = 32
    · have hn : q < n := chr_lt (by rw [c32]; decide)
      have hh : skp tp n (q + 1) = skp tp n p := by rw [← hs, skp.eq_1 tp n q, dif_pos (Or.inl c32)]
      simp only [↓zwq, zpq, zgq, zhq, eq_sto, eq_kill, eq_zSto, eq_mset, eq_zGd, zsq, Int.reduceToNat, List.length_cons, List.length_nil, Nat.reduceAdd, Nat.reduceLT, Nat.reduceEqDiff, Int.reduceLT, Int.reduceLE, Int.reduceEq, Int.reduceNe, Int.reduceNeg, Int.reduceAdd, Int.reduceSub, Int.reduceMul, if_true, if_false, ite_true, ite_false, reduceIte, true_and, and_true, true_implies, forall_const, decide_eq_true_eq, decide_eq_false_iff_not, Bool.not_eq_true', Bool.not_eq_false', Bool.and_eq_true, Bool.or_eq_true, Bool.and_eq_false_iff, Bool.or_eq_false_iff, Bool.not_eq_true, Bool.not_eq_false, Bool.false_eq_true, Bool.true_eq_false, false_implies, implies_true, b2i_ne, b2i_eq, zB_b2i, not_true_eq_false, not_false_eq_true, List.drop_zero, List.drop_succ_cons, zIn_iff, zI8_iff, laq hL, s129 d h, i32, c32, e1, b2i]
      exact ⟨n - (q + 1) + 1, Nat.succ_lt_succ (Nat.sub_lt_sub_left hn (Nat.lt_succ_self _)), q + 1, hn, hh, Or.inl ⟨rfl, rfl⟩⟩
    by_cases c10 : chr tp n q = 10
    · have hn : q < n := chr_lt (by rw [c10]; decide)
      have hh : skp tp n (q + 1) = skp tp n p := by rw [← hs, skp.eq_1 tp n q, dif_pos (Or.inr c10)]
      simp only [↓zwq, zpq, zgq, zhq, eq_sto, eq_kill, eq_zSto, eq_mset, eq_zGd, zsq, Int.reduceToNat, List.length_cons, List.length_nil, Nat.reduceAdd, Nat.reduceLT, Nat.reduceEqDiff, Int.reduceLT, Int.reduceLE, Int.reduceEq, Int.reduceNe, Int.reduceNeg, Int.reduceAdd, Int.reduceSub, Int.reduceMul, if_true, if_false, ite_true, ite_false, reduceIte, true_and, and_true, true_implies, forall_const, decide_eq_true_eq, decide_eq_false_iff_not, Bool.not_eq_true', Bool.not_eq_false', Bool.and_eq_true, Bool.or_eq_true, Bool.and_eq_false_iff, Bool.or_eq_false_iff, Bool.not_eq_true, Bool.not_eq_false, Bool.false_eq_true, Bool.true_eq_false, false_implies, implies_true, b2i_ne, b2i_eq, zB_b2i, not_true_eq_false, not_false_eq_true, List.drop_zero, List.drop_succ_cons, zIn_iff, zI8_iff, laq hL, s129 d h, i32, i10, c32, c10, e1, b2i, decide_true]
      exact ⟨n - (q + 1) + 1, Nat.succ_lt_succ (Nat.sub_lt_sub_left hn (Nat.lt_succ_self _)), q + 1, hn, hh, Or.inl ⟨rfl, rfl⟩⟩
    by_cases c45 : chr tp n q = 45 ∧ chr tp n (q + 1) = 45
    · have hn : q < n := chr_lt (by rw [c45.1]; decide)
      simp only [↓zwq, zpq, zgq, zhq, eq_sto, eq_kill, eq_zSto, eq_mset, eq_zGd, zsq, Int.reduceToNat, List.length_cons, List.length_nil, Nat.reduceAdd, Nat.reduceLT, Nat.reduceEqDiff, Int.reduceLT, Int.reduceLE, Int.reduceEq, Int.reduceNe, Int.reduceNeg, Int.reduceAdd, Int.reduceSub, Int.reduceMul, if_true, if_false, ite_true, ite_false, reduceIte, true_and, and_true, true_implies, forall_const, decide_eq_true_eq, decide_eq_false_iff_not, Bool.not_eq_true', Bool.not_eq_false', Bool.and_eq_true, Bool.or_eq_true, Bool.and_eq_false_iff, Bool.or_eq_false_iff, Bool.not_eq_true, Bool.not_eq_false, Bool.false_eq_true, Bool.true_eq_false, false_implies, implies_true, b2i_ne, b2i_eq, zB_b2i, not_true_eq_false, not_false_eq_true, List.drop_zero, List.drop_succ_cons, zIn_iff, zI8_iff, laq hL, s129 d h, i32, i10, i45, j45, c32, c10, c45, e1, b2i, decide_false]
      refine lpW (fun m e t => ∃ r : Nat, m = n - r ∧ r ≤ n ∧ cmt tp n r = cmt tp n q ∧ t = s ∧ e = [(3, 90), (1, ((2000 * A + p : Nat) : Int)), (1, ((2000 * A + r : Nat) : Int)), (1, 1)]) ?_ (n - q) _ _ ⟨q, rfl, hq, rfl, rfl, rfl⟩
      rintro m e s ⟨r, rfl, hr, hs2, rfl, rfl⟩
      have k10 := chm_is tp n r (c := 10) (by decide)
      have k0 := chm_ge tp n r
      by_cases g : r < n ∧ chr tp n r ≠ 10
      · have e2 : w32 (((2000 * A + r : Nat) : Int) + 1) = ((2000 * A + (r + 1) : Nat) : Int) := w32b (by omega)
        simp only [↓zwq, zpq, zgq, zhq, eq_sto, eq_kill, eq_zSto, eq_mset, eq_zGd, zsq, Int.reduceToNat, List.length_cons, List.length_nil, Nat.reduceAdd, Nat.reduceLT, Nat.reduceEqDiff, Int.reduceLT, Int.reduceLE, Int.reduceEq, Int.reduceNe, Int.reduceNeg, Int.reduceAdd, Int.reduceSub, Int.reduceMul, if_true, if_false, ite_true, ite_false, reduceIte, true_and, and_true, true_implies, forall_const, decide_eq_true_eq, decide_eq_false_iff_not, Bool.not_eq_true', Bool.not_eq_false', Bool.and_eq_true, Bool.or_eq_true, Bool.and_eq_false_iff, Bool.or_eq_false_iff, Bool.not_eq_true, Bool.not_eq_false, Bool.false_eq_true, Bool.true_eq_false, false_implies, implies_true, b2i_ne, b2i_eq, zB_b2i, not_true_eq_false, not_false_eq_true, List.drop_zero, List.drop_succ_cons, zIn_iff, zI8_iff, laq hL, s129 d h, k10, k0, g.1, g.2, e2]
        refine ⟨n - (r + 1), Nat.sub_lt_sub_left g.1 (Nat.lt_succ_self _), r + 1, rfl, g.1, ?_, rfl⟩
        rw [← hs2, cmt.eq_1 tp n r, if_pos g]
      · have g3 : skp tp n r = skp tp n p ∧ n - r + 1 < n - q + 1 := by
          have hr2 : cmt tp n r = r := by rw [cmt, if_neg g]
          have := cmt_lt c45.1
          refine ⟨?_, ?_⟩
          · rw [← hs, skp.eq_1 tp n q, dif_neg (by rw [c45.1]; decide), dif_pos c45, ← hs2, hr2]
          · rw [← hs2, hr2] at this; clear e1; omega
        by_cases g1 : r < n
        · have g2 : chr tp n r = 10 := Decidable.byContradiction fun z => g ⟨g1, z⟩
          simp only [↓zwq, zpq, zgq, zhq, eq_sto, eq_kill, eq_zSto, eq_mset, eq_zGd, zsq, Int.reduceToNat, List.length_cons, List.length_nil, Nat.reduceAdd, Nat.reduceLT, Nat.reduceEqDiff, Int.reduceLT, Int.reduceLE, Int.reduceEq, Int.reduceNe, Int.reduceNeg, Int.reduceAdd, Int.reduceSub, Int.reduceMul, if_true, if_false, ite_true, ite_false, reduceIte, true_and, and_true, true_implies, forall_const, decide_eq_true_eq, decide_eq_false_iff_not, Bool.not_eq_true', Bool.not_eq_false', Bool.and_eq_true, Bool.or_eq_true, Bool.and_eq_false_iff, Bool.or_eq_false_iff, Bool.not_eq_true, Bool.not_eq_false, Bool.false_eq_true, Bool.true_eq_false, false_implies, implies_true, b2i_ne, b2i_eq, zB_b2i, not_true_eq_false, not_false_eq_true, List.drop_zero, List.drop_succ_cons, zIn_iff, zI8_iff, laq hL, s129 d h, k10, k0, g1, g2]
          exact ⟨_, g3.2, r, hr, g3.1, Or.inl ⟨rfl, rfl⟩⟩
        · simp only [↓zwq, zpq, zgq, zhq, eq_sto, eq_kill, eq_zSto, eq_mset, eq_zGd, zsq, Int.reduceToNat, List.length_cons, List.length_nil, Nat.reduceAdd, Nat.reduceLT, Nat.reduceEqDiff, Int.reduceLT, Int.reduceLE, Int.reduceEq, Int.reduceNe, Int.reduceNeg, Int.reduceAdd, Int.reduceSub, Int.reduceMul, if_true, if_false, ite_true, ite_false, reduceIte, true_and, and_true, true_implies, forall_const, decide_eq_true_eq, decide_eq_false_iff_not, Bool.not_eq_true', Bool.not_eq_false', Bool.and_eq_true, Bool.or_eq_true, Bool.and_eq_false_iff, Bool.or_eq_false_iff, Bool.not_eq_true, Bool.not_eq_false, Bool.false_eq_true, Bool.true_eq_false, false_implies, implies_true, b2i_ne, b2i_eq, zB_b2i, not_true_eq_false, not_false_eq_true, List.drop_zero, List.drop_succ_cons, zIn_iff, zI8_iff, laq hL, s129 d h, k10, k0, g1]
          exact ⟨_, g3.2, r, hr, g3.1, Or.inl ⟨rfl, rfl⟩⟩
    · have e3 : skp tp n q = q := by rw [skp, dif_neg (by rintro (z | z); exact c32 z; exact c10 z), dif_neg c45]
      by_cases c4 : chr tp n q = 45
      · have c5 : ¬ chr tp n (q + 1) = 45 := fun z => c45 ⟨c4, z⟩
        simp only [↓zwq, zpq, zgq, zhq, eq_sto, eq_kill, eq_zSto, eq_mset, eq_zGd, zsq, Int.reduceToNat, List.length_cons, List.length_nil, Nat.reduceAdd, Nat.reduceLT, Nat.reduceEqDiff, Int.reduceLT, Int.reduceLE, Int.reduceEq, Int.reduceNe, Int.reduceNeg, Int.reduceAdd, Int.reduceSub, Int.reduceMul, if_true, if_false, ite_true, ite_false, reduceIte, true_and, and_true, true_implies, forall_const, decide_eq_true_eq, decide_eq_false_iff_not, Bool.not_eq_true', Bool.not_eq_false', Bool.and_eq_true, Bool.or_eq_true, Bool.and_eq_false_iff, Bool.or_eq_false_iff, Bool.not_eq_true, Bool.not_eq_false, Bool.false_eq_true, Bool.true_eq_false, false_implies, implies_true, b2i_ne, b2i_eq, zB_b2i, not_true_eq_false, not_false_eq_true, List.drop_zero, List.drop_succ_cons, zIn_iff, zI8_iff, laq hL, s129 d h, i32, i10, i45, j45, c32, c10, c4, c5, e1, b2i, decide_false]
        exact ⟨0, Nat.succ_pos _, q, hq, hs, Or.inr ⟨rfl, e3, rfl⟩⟩
      · simp only [↓zwq, zpq, zgq, zhq, eq_sto, eq_kill, eq_zSto, eq_mset, eq_zGd, zsq, Int.reduceToNat, List.length_cons, List.length_nil, Nat.reduceAdd, Nat.reduceLT, Nat.reduceEqDiff, Int.reduceLT, Int.reduceLE, Int.reduceEq, Int.reduceNe, Int.reduceNeg, Int.reduceAdd, Int.reduceSub, Int.reduceMul, if_true, if_false, ite_true, ite_false, reduceIte, true_and, and_true, true_implies, forall_const, decide_eq_true_eq, decide_eq_false_iff_not, Bool.not_eq_true', Bool.not_eq_false', Bool.and_eq_true, Bool.or_eq_true, Bool.and_eq_false_iff, Bool.or_eq_false_iff, Bool.not_eq_true, Bool.not_eq_false, Bool.false_eq_true, Bool.true_eq_false, false_implies, implies_true, b2i_ne, b2i_eq, zB_b2i, not_true_eq_false, not_false_eq_true, List.drop_zero, List.drop_succ_cons, zIn_iff, zI8_iff, laq hL, s129 d h, i32, i10, i45, j45, c32, c10, c4, e1, b2i, decide_false]
        exact ⟨0, Nat.succ_pos _, q, hq, hs, Or.inr ⟨rfl, e3, rfl⟩⟩
  · rw [← hs, hs2] at hR
    simp only [↓zwq, zpq, zgq, zhq, eq_sto, eq_kill, eq_zSto, eq_mset, eq_zGd, zsq, Int.reduceToNat, List.length_cons, List.length_nil, Nat.reduceAdd, Nat.reduceLT, Nat.reduceEqDiff, Int.reduceLT, Int.reduceLE, Int.reduceEq, Int.reduceNe, Int.reduceNeg, Int.reduceAdd, Int.reduceSub, Int.reduceMul, if_true, if_false, ite_true, ite_false, reduceIte, true_and, and_true, true_implies, forall_const, decide_eq_true_eq, decide_eq_false_iff_not, Bool.not_eq_true', Bool.not_eq_false', Bool.and_eq_true, Bool.or_eq_true, Bool.and_eq_false_iff, Bool.or_eq_false_iff, Bool.not_eq_true, Bool.not_eq_false, Bool.false_eq_true, Bool.true_eq_false, false_implies, implies_true, b2i_ne, b2i_eq, zB_b2i, not_true_eq_false, not_false_eq_true, List.drop_zero, List.drop_succ_cons, zIn_iff, zI8_iff, laq hL]
    exact hR
