/-! the bytes of a text -/
theorem iAnd_low (x : Int) (k : Nat) (hk : k < 31) : iAnd x (2 ^ k - 1) = x % 2 ^ k := by
  have e1 : (Int32.ofInt (2 ^ k - 1)).toBitVec.toNat = 2 ^ k - 1 := by
    have h2 : (2 : Nat) ^ k ≤ 2 ^ 30 := Nat.pow_le_pow_right (by decide) (by omega)
    have h3 : (0 : Nat) < 2 ^ k := Nat.pow_pos (by decide)
    have h4 : ((2 : Int) ^ k - 1) = ((2 ^ k - 1 : Nat) : Int) := by
      rw [Int.ofNat_sub h3]; simp
    rw [h4]
    show ((BitVec.ofInt 32 ((2 ^ k - 1 : Nat) : Int))).toNat = _
    simp
    omega
  have e2 : (Int32.ofInt x).toBitVec.toNat = (x % 4294967296).toNat := by
    show (BitVec.ofInt 32 x).toNat = _
    simp
  have e3 : (Int32.ofInt x &&& Int32.ofInt (2 ^ k - 1)).toBitVec.toNat = (x % 4294967296).toNat % 2 ^ k := by
    show ((Int32.ofInt x).toBitVec &&& (Int32.ofInt (2 ^ k - 1)).toBitVec).toNat = _
    rw [BitVec.toNat_and, e1, e2, Nat.and_two_pow_sub_one_eq_mod]
  have h2 : (2 : Nat) ^ k ≤ 2 ^ 30 := Nat.pow_le_pow_right (by decide) (by omega)
  have h3 : (0 : Nat) < 2 ^ k := Nat.pow_pos (by decide)
  have h5 := Nat.mod_lt (x % 4294967296).toNat h3
  show (Int32.ofInt x &&& Int32.ofInt (2 ^ k - 1)).toBitVec.toInt = _
  rw [BitVec.toInt_eq_toNat_of_lt (by rw [e3]; omega), e3]
  have h6 : ((x % 4294967296).toNat : Int) = x % 4294967296 := Int.toNat_of_nonneg (Int.emod_nonneg _ (by decide))
  rw [Int.natCast_emod, h6]
  have h7 : ((2 ^ k : Nat) : Int) = (2 : Int) ^ k := by simp
  rw [h7, Int.emod_emod_of_dvd]
  refine ⟨2 ^ (32 - k), ?_⟩
  rw [← Int.pow_add, show k + (32 - k) = 32 by omega]; decide
theorem iAnd255 (x : Int) : iAnd x 255 = x % 256 := iAnd_low x 8 (by decide)
theorem iAnd7 (x : Int) : iAnd x 7 = x % 8 := iAnd_low x 3 (by decide)
theorem iAnd1 (x : Int) : iAnd x 1 = x % 2 := iAnd_low x 1 (by decide)
theorem w32s {p : Nat} (h : p < 2147483647) : w32 ((p : Int) + 1) = ((p + 1 : Nat) : Int) := by unfold w32; omega
theorem w32sub {p q : Nat} (h : q ≤ p) (h2 : p < 2147483647) : w32 ((p : Int) - (q : Int)) = ((p - q : Nat) : Int) := by unfold w32; omega
theorem w32add {p q : Nat} (h2 : p + q < 2147483647) : w32 ((p : Int) + (q : Int)) = ((p + q : Nat) : Int) := by unfold w32; omega
theorem w32p2 {p : Nat} (h2 : p < 2147483640) : w32 ((p : Int) + 2) = ((p + 2 : Nat) : Int) := by unfold w32; omega
theorem w32p3 {p : Nat} (h2 : p < 2147483640) : w32 ((p : Int) + 3) = ((p + 3 : Nat) : Int) := by unfold w32; omega
theorem w32bp2 {b p : Nat} (h2 : b + p < 2147483640) : w32 (((b + p : Nat) : Int) + 2) = ((b + (p + 2) : Nat) : Int) := by unfold w32; omega
theorem w32bp3 {b p : Nat} (h2 : b + p < 2147483640) : w32 (((b + p : Nat) : Int) + 3) = ((b + (p + 3) : Nat) : Int) := by unfold w32; omega
theorem w32bsub {b p q : Nat} (h : p ≤ q) (h2 : b + q < 2147483640) : w32 (((b + q : Nat) : Int) - ((b + p : Nat) : Int)) = ((q - p : Nat) : Int) := by unfold w32; omega
/-- the byte at a place, 0 behind the end -/
def chr (tp : Nat → Int) (n k : Nat) : Int := if k < n then tp k % 256 else 0
def XT (tp : Nat → Int) (n : Nat) (σ : Mem) : Prop := Lay σ ∧ σ 8 1 = (n : Int) ∧ n ≤ 2000 ∧ (∀ i, i < n → σ 9 i = tp i)
theorem chr_lt {tp : Nat → Int} {n k : Nat} (h : chr tp n k ≠ 0) : k < n := by
  unfold chr at h; split at h
  · assumption
  · exact absurd rfl h
theorem s14 (d : Nat) {tp : Nat → Int} {n k : Nat} {σ : Mem} (h : XT tp n σ) (R T : zK) : zCallD (d + 1) 14 [8, (k : Int)] σ R T = R (chr tp n k) σ := by
  obtain ⟨hL, h1, h2, h3⟩ := h
  simp only [c_14, b_14, ↓zwq, zpq, zgq, zhq, eq_sto, eq_kill, eq_zSto, eq_mset, eq_zGd, zsq, Int.reduceToNat, List.length_cons, List.length_nil, Nat.reduceAdd, Nat.reduceLT, Nat.reduceEqDiff, Int.reduceLT, Int.reduceLE, Int.reduceEq, Int.reduceNe, Int.reduceNeg, Int.reduceAdd, Int.reduceSub, Int.reduceMul, if_true, if_false, ite_true, ite_false, reduceIte, true_and, and_true, true_implies, forall_const, decide_eq_true_eq, decide_eq_false_iff_not, Bool.not_eq_true', Bool.not_eq_false', Bool.and_eq_true, Bool.or_eq_true, Bool.and_eq_false_iff, Bool.or_eq_false_iff, Bool.not_eq_true, Bool.not_eq_false, Bool.false_eq_true, Bool.true_eq_false, false_implies, implies_true, b2i_ne, b2i_eq, zB_b2i, not_true_eq_false, not_false_eq_true, List.drop_zero, List.drop_succ_cons, zIn_iff, zI8_iff, laq hL, h1, iAnd255, Int.toNat_natCast]
  have e : (if (k : Int) < (n : Int) then σ 9 k % 256 else 0) = chr tp n k := by
    unfold chr
    by_cases q : k < n
    · rw [if_pos q, if_pos (by omega), h3 k q]
    · rw [if_neg q, if_neg (by omega)]
  rw [e]
  exact propext ⟨fun q => q.2, fun q => ⟨fun _ => by omega, q⟩⟩
/-- behind a remark -/
def cmt (tp : Nat → Int) (n p : Nat) : Nat := if p < n ∧ chr tp n p ≠ 10 then cmt tp n (p + 1) else p
termination_by n - p
theorem cmt_le (tp : Nat → Int) (n p : Nat) : p ≤ cmt tp n p ∧ (p ≤ n → cmt tp n p ≤ n) := by
  rw [cmt]
  split
  · next h => have := cmt_le tp n (p + 1); omega
  · omega
termination_by n - p
theorem cmt_lt {tp : Nat → Int} {n p : Nat} (h : chr tp n p = 45) : p < cmt tp n p := by
  rw [cmt, if_pos ⟨chr_lt (by rw [h]; decide), by rw [h]; decide⟩]
  exact (cmt_le tp n (p + 1)).1
/-- behind blanks -/
def skp (tp : Nat → Int) (n p : Nat) : Nat := if h : chr tp n p = 32 ∨ chr tp n p = 10 then skp tp n (p + 1) else if h : chr tp n p = 45 ∧ chr tp n (p + 1) = 45 then skp tp n (cmt tp n p) else p
termination_by n - p
decreasing_by
  · have : p < n := chr_lt (by rcases h with h | h <;> rw [h] <;> decide)
    omega
  · have : p < n := chr_lt (by rw [h.1]; decide)
    have := cmt_lt h.1
    omega
theorem skp_le (tp : Nat → Int) (n p : Nat) : p ≤ skp tp n p ∧ (p ≤ n → skp tp n p ≤ n) := by
  rw [skp]
  split
  · next h =>
    have : p < n := chr_lt (by rcases h with h | h <;> rw [h] <;> decide)
    have := skp_le tp n (p + 1); omega
  · split
    · next h =>
      have : p < n := chr_lt (by rw [h.1]; decide)
      have := cmt_lt h.1
      have h2 := cmt_le tp n p
      have := skp_le tp n (cmt tp n p); omega
    · omega
termination_by n - p
theorem s20 (d : Nat) {tp : Nat → Int} {n p : Nat} {σ : Mem} (h : XT tp n σ) (hp : p ≤ n) (R T : zK) (hR : R (skp tp n p) σ) : zCallD (d + 2) 20 [8, (p : Int)] σ R T := by
  have ⟨hL, h1, h2, h3⟩ := h
  simp only [c_20, b_20, ↓zwq, zpq, zgq, zhq, eq_sto, eq_kill, eq_zSto, eq_mset, eq_zGd, zsq, Int.reduceToNat, List.length_cons, List.length_nil, Nat.reduceAdd, Nat.reduceLT, Nat.reduceEqDiff, Int.reduceLT, Int.reduceLE, Int.reduceEq, Int.reduceNe, Int.reduceNeg, Int.reduceAdd, Int.reduceSub, Int.reduceMul, if_true, if_false, ite_true, ite_false, reduceIte, true_and, and_true, true_implies, forall_const, decide_eq_true_eq, decide_eq_false_iff_not, Bool.not_eq_true', Bool.not_eq_false', Bool.and_eq_true, Bool.or_eq_true, Bool.and_eq_false_iff, Bool.or_eq_false_iff, Bool.not_eq_true, Bool.not_eq_false, Bool.false_eq_true, Bool.true_eq_false, false_implies, implies_true, b2i_ne, b2i_eq, zB_b2i, not_true_eq_false, not_false_eq_true, List.drop_zero, List.drop_succ_cons, zIn_iff, zI8_iff, laq hL, h1, s14 d h, Int.toNat_natCast]
  refine lpW (fun m e s => ∃ q : Nat, m = n - q ∧ q ≤ n ∧ skp tp n q = skp tp n p ∧ s = σ ∧ e = [(3, 8), (1, (p : Int)), (1, (q : Int))]) ?_ (n - p) _ _ ⟨p, rfl, hp, rfl, rfl, rfl⟩
  rintro m e s ⟨q, rfl, hq, hs, rfl, rfl⟩
  have e1 : w32 ((q : Int) + 1) = ((q + 1 : Nat) : Int) := w32s (by omega)
  by_cases c32 : chr tp n q = 32
  · have hn : q < n := chr_lt (by rw [c32]; decide)
    simp only [↓zwq, zpq, zgq, zhq, eq_sto, eq_kill, eq_zSto, eq_mset, eq_zGd, zsq, Int.reduceToNat, List.length_cons, List.length_nil, Nat.reduceAdd, Nat.reduceLT, Nat.reduceEqDiff, Int.reduceLT, Int.reduceLE, Int.reduceEq, Int.reduceNe, Int.reduceNeg, Int.reduceAdd, Int.reduceSub, Int.reduceMul, if_true, if_false, ite_true, ite_false, reduceIte, true_and, and_true, true_implies, forall_const, decide_eq_true_eq, decide_eq_false_iff_not, Bool.not_eq_true', Bool.not_eq_false', Bool.and_eq_true, Bool.or_eq_true, Bool.and_eq_false_iff, Bool.or_eq_false_iff, Bool.not_eq_true, Bool.not_eq_false, Bool.false_eq_true, Bool.true_eq_false, false_implies, implies_true, b2i_ne, b2i_eq, zB_b2i, not_true_eq_false, not_false_eq_true, List.drop_zero, List.drop_succ_cons, zIn_iff, zI8_iff, laq hL, h1, s14 d h, c32, e1]
    refine ⟨n - (q + 1), by omega, q + 1, rfl, by omega, ?_, rfl⟩
    rw [← hs, skp.eq_1 tp n q, dif_pos (Or.inl c32)]
  by_cases c10 : chr tp n q = 10
  · have hn : q < n := chr_lt (by rw [c10]; decide)
    simp only [↓zwq, zpq, zgq, zhq, eq_sto, eq_kill, eq_zSto, eq_mset, eq_zGd, zsq, Int.reduceToNat, List.length_cons, List.length_nil, Nat.reduceAdd, Nat.reduceLT, Nat.reduceEqDiff, Int.reduceLT, Int.reduceLE, Int.reduceEq, Int.reduceNe, Int.reduceNeg, Int.reduceAdd, Int.reduceSub, Int.reduceMul, if_true, if_false, ite_true, ite_false, reduceIte, true_and, and_true, true_implies, forall_const, decide_eq_true_eq, decide_eq_false_iff_not, Bool.not_eq_true', Bool.not_eq_false', Bool.and_eq_true, Bool.or_eq_true, Bool.and_eq_false_iff, Bool.or_eq_false_iff, Bool.not_eq_true, Bool.not_eq_false, Bool.false_eq_true, Bool.true_eq_false, false_implies, implies_true, b2i_ne, b2i_eq, zB_b2i, not_true_eq_false, not_false_eq_true, List.drop_zero, List.drop_succ_cons, zIn_iff, zI8_iff, laq hL, h1, s14 d h, c10, e1]
    refine ⟨n - (q + 1), by omega, q + 1, rfl, by omega, ?_, rfl⟩
    rw [← hs, skp.eq_1 tp n q, dif_pos (Or.inr c10)]
  by_cases c45 : chr tp n q = 45 ∧ chr tp n (q + 1) = 45
  · have hn : q < n := chr_lt (by rw [c45.1]; decide)
    simp only [↓zwq, zpq, zgq, zhq, eq_sto, eq_kill, eq_zSto, eq_mset, eq_zGd, zsq, Int.reduceToNat, List.length_cons, List.length_nil, Nat.reduceAdd, Nat.reduceLT, Nat.reduceEqDiff, Int.reduceLT, Int.reduceLE, Int.reduceEq, Int.reduceNe, Int.reduceNeg, Int.reduceAdd, Int.reduceSub, Int.reduceMul, if_true, if_false, ite_true, ite_false, reduceIte, true_and, and_true, true_implies, forall_const, decide_eq_true_eq, decide_eq_false_iff_not, Bool.not_eq_true', Bool.not_eq_false', Bool.and_eq_true, Bool.or_eq_true, Bool.and_eq_false_iff, Bool.or_eq_false_iff, Bool.not_eq_true, Bool.not_eq_false, Bool.false_eq_true, Bool.true_eq_false, false_implies, implies_true, b2i_ne, b2i_eq, zB_b2i, not_true_eq_false, not_false_eq_true, List.drop_zero, List.drop_succ_cons, zIn_iff, zI8_iff, laq hL, h1, s14 d h, c45, e1]
    refine lpW (fun m e t => ∃ r : Nat, m = n - r ∧ r ≤ n ∧ cmt tp n r = cmt tp n q ∧ t = s ∧ e = [(3, 8), (1, (p : Int)), (1, (r : Int))]) ?_ (n - q) _ _ ⟨q, rfl, hq, rfl, rfl, rfl⟩
    rintro m e s ⟨r, rfl, hr, hs2, rfl, rfl⟩
    by_cases g : r < n ∧ chr tp n r ≠ 10
    · have g1 : (r : Int) < (n : Int) := by omega
      have e2 : w32 ((r : Int) + 1) = ((r + 1 : Nat) : Int) := w32s (by omega)
      simp only [↓zwq, zpq, zgq, zhq, eq_sto, eq_kill, eq_zSto, eq_mset, eq_zGd, zsq, Int.reduceToNat, List.length_cons, List.length_nil, Nat.reduceAdd, Nat.reduceLT, Nat.reduceEqDiff, Int.reduceLT, Int.reduceLE, Int.reduceEq, Int.reduceNe, Int.reduceNeg, Int.reduceAdd, Int.reduceSub, Int.reduceMul, if_true, if_false, ite_true, ite_false, reduceIte, true_and, and_true, true_implies, forall_const, decide_eq_true_eq, decide_eq_false_iff_not, Bool.not_eq_true', Bool.not_eq_false', Bool.and_eq_true, Bool.or_eq_true, Bool.and_eq_false_iff, Bool.or_eq_false_iff, Bool.not_eq_true, Bool.not_eq_false, Bool.false_eq_true, Bool.true_eq_false, false_implies, implies_true, b2i_ne, b2i_eq, zB_b2i, not_true_eq_false, not_false_eq_true, List.drop_zero, List.drop_succ_cons, zIn_iff, zI8_iff, laq hL, h1, s14 d h, g1, g.2, e2]
      refine ⟨n - (r + 1), Nat.sub_lt_sub_left g.1 (Nat.lt_succ_self _), r + 1, rfl, g.1, ?_, rfl⟩
      rw [← hs2, cmt.eq_1 tp n r, if_pos g]
    · have g3 : (∃ m, m < n - q ∧ ∃ q : Nat, m = n - q ∧ q ≤ n ∧ skp tp n q = skp tp n p ∧ [(3, (8 : Int)), (1, (p : Int)), (1, (r : Int))] = [(3, 8), (1, (p : Int)), (1, (q : Int))]) := by
        have hr2 : cmt tp n r = r := by rw [cmt, if_neg g]
        have := cmt_lt c45.1
        refine ⟨n - r, by omega, r, rfl, hr, ?_, rfl⟩
        rw [← hs, skp.eq_1 tp n q, dif_neg (by rw [c45.1]; decide), dif_pos c45, ← hs2, hr2]
      by_cases g1 : (r : Int) < (n : Int)
      · have g2 : chr tp n r = 10 := Decidable.byContradiction fun z => g ⟨by omega, z⟩
        simp only [↓zwq, zpq, zgq, zhq, eq_sto, eq_kill, eq_zSto, eq_mset, eq_zGd, zsq, Int.reduceToNat, List.length_cons, List.length_nil, Nat.reduceAdd, Nat.reduceLT, Nat.reduceEqDiff, Int.reduceLT, Int.reduceLE, Int.reduceEq, Int.reduceNe, Int.reduceNeg, Int.reduceAdd, Int.reduceSub, Int.reduceMul, if_true, if_false, ite_true, ite_false, reduceIte, true_and, and_true, true_implies, forall_const, decide_eq_true_eq, decide_eq_false_iff_not, Bool.not_eq_true', Bool.not_eq_false', Bool.and_eq_true, Bool.or_eq_true, Bool.and_eq_false_iff, Bool.or_eq_false_iff, Bool.not_eq_true, Bool.not_eq_false, Bool.false_eq_true, Bool.true_eq_false, false_implies, implies_true, b2i_ne, b2i_eq, zB_b2i, not_true_eq_false, not_false_eq_true, List.drop_zero, List.drop_succ_cons, zIn_iff, zI8_iff, laq hL, h1, s14 d h, g1, g2]
        exact g3
      · simp only [↓zwq, zpq, zgq, zhq, eq_sto, eq_kill, eq_zSto, eq_mset, eq_zGd, zsq, Int.reduceToNat, List.length_cons, List.length_nil, Nat.reduceAdd, Nat.reduceLT, Nat.reduceEqDiff, Int.reduceLT, Int.reduceLE, Int.reduceEq, Int.reduceNe, Int.reduceNeg, Int.reduceAdd, Int.reduceSub, Int.reduceMul, if_true, if_false, ite_true, ite_false, reduceIte, true_and, and_true, true_implies, forall_const, decide_eq_true_eq, decide_eq_false_iff_not, Bool.not_eq_true', Bool.not_eq_false', Bool.and_eq_true, Bool.or_eq_true, Bool.and_eq_false_iff, Bool.or_eq_false_iff, Bool.not_eq_true, Bool.not_eq_false, Bool.false_eq_true, Bool.true_eq_false, false_implies, implies_true, b2i_ne, b2i_eq, zB_b2i, not_true_eq_false, not_false_eq_true, List.drop_zero, List.drop_succ_cons, zIn_iff, zI8_iff, laq hL, h1, s14 d h, g1]
        exact g3
  · have e3 : skp tp n q = q := by rw [skp, dif_neg (by rintro (z | z); exact c32 z; exact c10 z), dif_neg c45]
    rw [← hs, e3] at hR
    by_cases c4 : chr tp n q = 45
    · have c5 : ¬ chr tp n (q + 1) = 45 := fun z => c45 ⟨c4, z⟩
      simp only [↓zwq, zpq, zgq, zhq, eq_sto, eq_kill, eq_zSto, eq_mset, eq_zGd, zsq, Int.reduceToNat, List.length_cons, List.length_nil, Nat.reduceAdd, Nat.reduceLT, Nat.reduceEqDiff, Int.reduceLT, Int.reduceLE, Int.reduceEq, Int.reduceNe, Int.reduceNeg, Int.reduceAdd, Int.reduceSub, Int.reduceMul, if_true, if_false, ite_true, ite_false, reduceIte, true_and, and_true, true_implies, forall_const, decide_eq_true_eq, decide_eq_false_iff_not, Bool.not_eq_true', Bool.not_eq_false', Bool.and_eq_true, Bool.or_eq_true, Bool.and_eq_false_iff, Bool.or_eq_false_iff, Bool.not_eq_true, Bool.not_eq_false, Bool.false_eq_true, Bool.true_eq_false, false_implies, implies_true, b2i_ne, b2i_eq, zB_b2i, not_true_eq_false, not_false_eq_true, List.drop_zero, List.drop_succ_cons, zIn_iff, zI8_iff, laq hL, h1, s14 d h, c4, c5, e1, hR]
    · simp only [↓zwq, zpq, zgq, zhq, eq_sto, eq_kill, eq_zSto, eq_mset, eq_zGd, zsq, Int.reduceToNat, List.length_cons, List.length_nil, Nat.reduceAdd, Nat.reduceLT, Nat.reduceEqDiff, Int.reduceLT, Int.reduceLE, Int.reduceEq, Int.reduceNe, Int.reduceNeg, Int.reduceAdd, Int.reduceSub, Int.reduceMul, if_true, if_false, ite_true, ite_false, reduceIte, true_and, and_true, true_implies, forall_const, decide_eq_true_eq, decide_eq_false_iff_not, Bool.not_eq_true', Bool.not_eq_false', Bool.and_eq_true, Bool.or_eq_true, Bool.and_eq_false_iff, Bool.or_eq_false_iff, Bool.not_eq_true, Bool.not_eq_false, Bool.false_eq_true, Bool.true_eq_false, false_implies, implies_true, b2i_ne, b2i_eq, zB_b2i, not_true_eq_false, not_false_eq_true, List.drop_zero, List.drop_succ_cons, zIn_iff, zI8_iff, laq hL, h1, s14 d h, c32, c10, c4, hR]
