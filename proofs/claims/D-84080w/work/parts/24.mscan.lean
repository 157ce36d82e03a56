/-! LazyFormsModel scans a text -/
def wMs (o k : Nat) : Bool := o == 94 || o == 95 || o == 96 || (o == 90 && (k == 5 || k == 6))
def MK (tp : Nat → Int) (n A K : Nat) (σ : Mem) : Prop := ∀ k, k < K → σ 94 k = (mKd (tok tp n (plc tp n k)).1 : Int) ∧ σ 96 k = ((2000 * A + plc tp n k : Nat) : Int) ∧ (2 ≤ (tok tp n (plc tp n k)).1 → σ 95 k = mTv tp n A (plc tp n k))
/-- the tokens are there, down to the first that ends the text or is bad -/
def MR (tp : Nat → Int) (n A : Nat) (σ : Mem) : Prop := MT tp n A σ ∧ ∃ K, K ≤ 2000 ∧ MK tp n A (K + 1) σ ∧ (∀ k, k < K → plc tp n k < n ∧ (tok tp n (plc tp n k)).1 ≠ 1) ∧ (tok tp n (plc tp n K)).1 ≤ 1
theorem tok_end {tp : Nat → Int} {n p : Nat} (h : (tok tp n p).1 = 0) : n ≤ p := by
  unfold tok at h
  split at h
  · assumption
  · exfalso
    revert h
    split
    · dsimp only
      split
      · decide
      · split
        · decide
        · unfold kwd
          repeat' split
          all_goals decide
    · split
      · dsimp only
        split <;> decide
      · intro h
        exact absurd h ((show ∀ x ∈ sgnL, x.1 ≠ 0 by decide) _ (sgn_mem _ _))
theorem mKd_01 (k : Nat) : ((mKd k : Int) = 0) = (k = 0) ∧ ((mKd k : Int) = 1) = (k = 1) := by
  unfold mKd
  constructor
  · refine propext ⟨fun h => ?_, fun h => by subst h; rfl⟩
    split at h
    · omega
    · split at h <;> omega
  · refine propext ⟨fun h => ?_, fun h => by subst h; rfl⟩
    split at h
    · omega
    · split at h <;> omega
theorem wMs_lay : layL.all (fun p => !wMs p.1 p.2.1) = true := by decide
theorem MT.fr {W : Nat → Nat → Bool} {tp : Nat → Int} {n A : Nat} {σ τ : Mem} (h : MT tp n A σ) (f : Fr W σ τ) (hl : layL.all (fun p => !W p.1 p.2.1) = true) (h1 : W 90 4 = false) (h2 : ∀ k, W 93 k = false) (h3 : ∀ k, W 92 k = false) : MT tp n A τ := by
  obtain ⟨a, b, c, d, e, g, i⟩ := h
  exact ⟨f.lay hl a, (f _ _ h1).trans b, c, (f _ _ (h2 _)).trans d, e, fun k hk => (f _ _ (h3 _)).trans (g k hk), i⟩
theorem s136 (d : Nat) {tp : Nat → Int} {n A : Nat} {σ : Mem} (h : MT tp n A σ) (R T : zK) (hR : ∀ τ, Fr wMs σ τ → MR tp n A τ → τ 90 6 = 0 → R 0 τ) : zCallD (d + 5) 136 [90] σ R T := by
  have ⟨hL, h1, h2, h3, h4, h5, h6⟩ := h
  have e0 : w32 (2000 * (A : Int)) = ((2000 * A + 0 : Nat) : Int) := w32mul h2
  simp only [c_136, b_136, ↓zwq, zpq, zgq, zhq, eq_sto, eq_kill, eq_zSto, eq_mset, eq_zGd, zsq, Int.reduceToNat, List.length_cons, List.length_nil, Nat.reduceAdd, Nat.reduceLT, Nat.reduceEqDiff, Int.reduceLT, Int.reduceLE, Int.reduceEq, Int.reduceNe, Int.reduceNeg, Int.reduceAdd, Int.reduceSub, Int.reduceMul, if_true, if_false, ite_true, ite_false, reduceIte, true_and, and_true, true_implies, forall_const, decide_eq_true_eq, decide_eq_false_iff_not, Bool.not_eq_true', Bool.not_eq_false', Bool.and_eq_true, Bool.or_eq_true, Bool.and_eq_false_iff, Bool.or_eq_false_iff, Bool.not_eq_true, Bool.not_eq_false, Bool.false_eq_true, Bool.true_eq_false, false_implies, implies_true, b2i_ne, b2i_eq, zB_b2i, not_true_eq_false, not_false_eq_true, List.drop_zero, List.drop_succ_cons, zIn_iff, zI8_iff, or_false, false_or, or_true, true_or, and_false, false_and, laq hL, h1, e0]
  have hf0 : Fr wMs σ (mset σ 90 5 0) := Fr.rf.set (by decide)
  refine s135 (d + 2) (h.fr hf0 wMs_lay (by decide) (by intro k; simp [wMs]) (by intro k; simp [wMs])) (Nat.zero_le _) _ _ ?_
  clear e0
  refine lpW (fun m e s => ∃ (K : Nat) (x : Int), Fr wMs σ s ∧ s 90 5 = (K : Int) ∧ MK tp n A K s ∧ e = [(3, 90), (1, ((2000 * A + plc tp n K : Nat) : Int)), (1, x), (0, 0)] ∧
    ((m = n - plc tp n K + 1 ∧ x ≠ 0 ∧ x ≠ 1 ∧ (∀ k, k < K → plc tp n k < n ∧ (tok tp n (plc tp n k)).1 ≠ 1)) ∨ (m = 0 ∧ 0 < K ∧ (x = 0 ∨ x = 1) ∧ (∀ k, k < K - 1 → plc tp n k < n ∧ (tok tp n (plc tp n k)).1 ≠ 1) ∧ (tok tp n (plc tp n (K - 1))).1 ≤ 1))) ?_ (n - plc tp n 0 + 1) _ _ ⟨0, 5, hf0, by simp [eq_mset], fun k hk => by omega, rfl, Or.inl ⟨rfl, by decide, by decide, fun k hk => by omega⟩⟩
  clear hf0
  rintro m e s ⟨K, x, hF, hK, hM, rfl, ⟨rfl, x0, x1, hk⟩ | ⟨rfl, hK0, x01, hk, hlast⟩⟩
  · have hX : MT tp n A s := h.fr hF wMs_lay (by decide) (by intro k; simp [wMs]) (by intro k; simp [wMs])
    have hL' := hX.1
    have hge := plc_ge (tp := tp) (n := n) (K := K) (fun k z => (hk k z).1)
    have hle := plc_le tp n K
    have hKb : K < 2010 := by omega
    simp only [↓zwq, zpq, zgq, zhq, eq_sto, eq_kill, eq_zSto, eq_mset, eq_zGd, zsq, Int.reduceToNat, List.length_cons, List.length_nil, Nat.reduceAdd, Nat.reduceLT, Nat.reduceEqDiff, Int.reduceLT, Int.reduceLE, Int.reduceEq, Int.reduceNe, Int.reduceNeg, Int.reduceAdd, Int.reduceSub, Int.reduceMul, if_true, if_false, ite_true, ite_false, reduceIte, true_and, and_true, true_implies, forall_const, decide_eq_true_eq, decide_eq_false_iff_not, Bool.not_eq_true', Bool.not_eq_false', Bool.and_eq_true, Bool.or_eq_true, Bool.and_eq_false_iff, Bool.or_eq_false_iff, Bool.not_eq_true, Bool.not_eq_false, Bool.false_eq_true, Bool.true_eq_false, false_implies, implies_true, b2i_ne, b2i_eq, zB_b2i, not_true_eq_false, not_false_eq_true, List.drop_zero, List.drop_succ_cons, zIn_iff, zI8_iff, or_false, false_or, or_true, true_or, and_false, false_and, x0, x1]
    refine s137 d hX hle hK hKb _ _ (fun τ hP => ?_)
    obtain ⟨p1, p2, p3⟩ := hP
    have hF2 : Fr wMs σ τ := hF.tr (p1.le (fun o k z => by simp [wAt] at z; rcases z.1 with z | z <;> simp [wMs, z]))
    have hX2 : MT tp n A τ := h.fr hF2 wMs_lay (by decide) (by intro k; simp [wMs]) (by intro k; simp [wMs])
    have hK2 : τ 90 5 = (K : Int) := (p1 _ _ (by simp [wAt])).trans hK
    have hin : (0 : Int) ≤ (K : Int) ∧ (K : Int) < ((2010 : Nat) : Int) := by omega
    simp only [↓zwq, zpq, zgq, zhq, eq_sto, eq_kill, eq_zSto, eq_mset, eq_zGd, zsq, Int.reduceToNat, List.length_cons, List.length_nil, Nat.reduceAdd, Nat.reduceLT, Nat.reduceEqDiff, Int.reduceLT, Int.reduceLE, Int.reduceEq, Int.reduceNe, Int.reduceNeg, Int.reduceAdd, Int.reduceSub, Int.reduceMul, if_true, if_false, ite_true, ite_false, reduceIte, true_and, and_true, true_implies, forall_const, decide_eq_true_eq, decide_eq_false_iff_not, Bool.not_eq_true', Bool.not_eq_false', Bool.and_eq_true, Bool.or_eq_true, Bool.and_eq_false_iff, Bool.or_eq_false_iff, Bool.not_eq_true, Bool.not_eq_false, Bool.false_eq_true, Bool.true_eq_false, false_implies, implies_true, b2i_ne, b2i_eq, zB_b2i, not_true_eq_false, not_false_eq_true, List.drop_zero, List.drop_succ_cons, zIn_iff, zI8_iff, or_false, false_or, or_true, true_or, and_false, false_and, laq hX2.1, hK2, hin, Int.toNat_natCast, w32s (show K < 2147483647 by omega), p2]
    have hF3 : Fr wMs σ (mset (mset τ 96 K ((2000 * A + plc tp n K : Nat) : Int)) 90 5 ((K + 1 : Nat) : Int)) := (hF2.set (by simp [wMs])).set (by simp [wMs])
    have hX3 : MT tp n A (mset (mset τ 96 K ((2000 * A + plc tp n K : Nat) : Int)) 90 5 ((K + 1 : Nat) : Int)) := h.fr hF3 wMs_lay (by decide) (by intro k; simp [wMs]) (by intro k; simp [wMs])
    have hM3 : MK tp n A (K + 1) (mset (mset τ 96 K ((2000 * A + plc tp n K : Nat) : Int)) 90 5 ((K + 1 : Nat) : Int)) := by
      intro k hk'
      by_cases e : k = K
      · subst e
        simp [eq_mset, p2]
        exact p3
      · have q := hM k (by omega)
        have q1 : τ 94 k = s 94 k := p1 _ _ (by simp [wAt, e])
        have q2 : τ 95 k = s 95 k := p1 _ _ (by simp [wAt, e])
        have q3 : τ 96 k = s 96 k := p1 _ _ (by simp [wAt])
        simp [eq_mset, e, q1, q2, q3]
        simpa using q
    have hK3 : mset (mset τ 96 K ((2000 * A + plc tp n K : Nat) : Int)) 90 5 ((K + 1 : Nat) : Int) 90 5 = ((K + 1 : Nat) : Int) := by simp [eq_mset]
    generalize mset (mset τ 96 K ((2000 * A + plc tp n K : Nat) : Int)) 90 5 ((K + 1 : Nat) : Int) = υ at hF3 hX3 hM3 hK3 ⊢
    have hle2 : plc tp n K + (tok tp n (plc tp n K)).2 ≤ n := by
      by_cases g : plc tp n K < n
      · exact (tok_le g).2
      · have : tok tp n (plc tp n K) = (0, 0) := by unfold tok; rw [if_pos (by omega)]
        rw [this]; exact hle
    refine s135 (d + 2) hX3 hle2 _ _ ?_
    have k0 := (mKd_01 (tok tp n (plc tp n K)).1).1
    have k1 := (mKd_01 (tok tp n (plc tp n K)).1).2
    by_cases g : (tok tp n (plc tp n K)).1 ≤ 1
    · refine ⟨0, Nat.succ_pos _, K + 1, _, hF3, hK3, hM3, rfl, Or.inr ⟨rfl, Nat.succ_pos _, ?_, hk, g⟩⟩
      rw [k0, k1]; omega
    · have g0 : plc tp n K < n := by
        refine Nat.lt_of_not_le fun z => g ?_
        unfold tok; rw [if_pos z]; decide
      have := plc_lt g0
      have := plc_le tp n (K + 1)
      refine ⟨n - plc tp n (K + 1) + 1, by omega, K + 1, _, hF3, hK3, hM3, rfl, Or.inl ⟨rfl, ?_, ?_, fun k hk' => ?_⟩⟩
      · intro z; rw [k0] at z; omega
      · intro z; rw [k1] at z; omega
      · by_cases e : k = K
        · rw [e]; exact ⟨g0, by omega⟩
        · exact hk k (by omega)
  · have hX : MT tp n A s := h.fr hF wMs_lay (by decide) (by intro k; simp [wMs]) (by intro k; simp [wMs])
    have hF2 : Fr wMs σ (mset s 90 6 0) := hF.set (by decide)
    have hX2 : MT tp n A (mset s 90 6 0) := h.fr hF2 wMs_lay (by decide) (by intro k; simp [wMs]) (by intro k; simp [wMs])
    obtain ⟨K, rfl⟩ : ∃ J, K = J + 1 := ⟨K - 1, by omega⟩
    have hge := plc_ge (tp := tp) (n := n) (K := K) (fun k z => (hk k z).1)
    have hle := plc_le tp n K
    have fin : R 0 (mset s 90 6 0) := hR _ hF2 ⟨hX2, K, by omega, hM, hk, hlast⟩ (by simp [eq_mset])
    rcases x01 with rfl | rfl <;> simp only [↓zwq, zpq, zgq, zhq, eq_sto, eq_kill, eq_zSto, eq_mset, eq_zGd, zsq, Int.reduceToNat, List.length_cons, List.length_nil, Nat.reduceAdd, Nat.reduceLT, Nat.reduceEqDiff, Int.reduceLT, Int.reduceLE, Int.reduceEq, Int.reduceNe, Int.reduceNeg, Int.reduceAdd, Int.reduceSub, Int.reduceMul, if_true, if_false, ite_true, ite_false, reduceIte, true_and, and_true, true_implies, forall_const, decide_eq_true_eq, decide_eq_false_iff_not, Bool.not_eq_true', Bool.not_eq_false', Bool.and_eq_true, Bool.or_eq_true, Bool.and_eq_false_iff, Bool.or_eq_false_iff, Bool.not_eq_true, Bool.not_eq_false, Bool.false_eq_true, Bool.true_eq_false, false_implies, implies_true, b2i_ne, b2i_eq, zB_b2i, not_true_eq_false, not_false_eq_true, List.drop_zero, List.drop_succ_cons, zIn_iff, zI8_iff, or_false, false_or, or_true, true_or, and_false, false_and] <;> exact fin
