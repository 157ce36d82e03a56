/-! LazyForms' reader: numbers, names -/
theorem tok_num {tp : Nat → Int} {n p : Nat} (h : (tok tp n p).1 = 4) : p < n ∧ (tok tp n p).2 = dEnd tp n p - p ∧ (tok tp n p).2 ≤ 9 := by
  by_cases h1 : n ≤ p
  · exfalso; revert h; unfold tok; rw [if_pos h1]; decide
  by_cases h2 : isS (chr tp n p) = true ∨ isG (chr tp n p) = true
  · exfalso; revert h; unfold tok; rw [if_neg h1, if_pos h2]
    dsimp only
    split
    · decide
    · split
      · decide
      · unfold kwd
        repeat' split
        all_goals decide
  by_cases h3 : isD (chr tp n p) = true
  · have e : tok tp n p = (if dEnd tp n p - p ≤ 9 ∧ (chr tp n p ≠ 48 ∨ dEnd tp n p - p = 1) then 4 else 1, dEnd tp n p - p) := by
      unfold tok; rw [if_neg h1, if_neg h2, if_pos h3]
    rw [e] at h ⊢
    dsimp only at h ⊢
    split at h
    · next g => exact ⟨by omega, rfl, g.1⟩
    · exact absurd h (by decide)
  · exfalso; revert h; unfold tok; rw [if_neg h1, if_neg h2, if_neg h3]
    intro h
    exact absurd h ((show ∀ x ∈ sgnL, x.1 ≠ 4 by decide) _ (sgn_mem _ _))
section
variable {tp : Nat → Int} {n e tr pr i o N : Nat} {ml : Nat → List (List Int)} {σ : Mem}
theorem s26 (d : Nat) (h : XS tp n e tr pr σ) {k : Nat} (hk : k ≤ e) (h4 : kdT tp n k = 4) (R T : zK) (hR : R (vlT tp n k) σ) : zCallD (d + 1) 26 [8, (k : Int)] σ R T := by
  obtain ⟨⟨hL, -, hn, ht⟩, hb, he, -, -, -, -, -, -, hr⟩ := h
  obtain ⟨b0, b1, b2⟩ := hb k hk
  obtain ⟨t1, t2, t3⟩ := tok_num h4
  have hd := (dEnd_le tp n (plc tp n k)).2 (Nat.le_of_lt t1)
  have hin : (0 : Int) ≤ (k : Int) ∧ (k : Int) < ((2002 : Nat) : Int) := by omega
  have ez : szT tp n k = dEnd tp n (plc tp n k) - plc tp n k := t2
  have t3' : szT tp n k ≤ 9 := t3
  simp only [c_26, b_26, ↓zwq, zpq, zgq, zhq, eq_sto, eq_kill, eq_zSto, eq_mset, eq_zGd, zsq, Int.reduceToNat, List.length_cons, List.length_nil, Nat.reduceAdd, Nat.reduceLT, Nat.reduceEqDiff, Int.reduceLT, Int.reduceLE, Int.reduceEq, Int.reduceNe, Int.reduceNeg, Int.reduceAdd, Int.reduceSub, Int.reduceMul, if_true, if_false, ite_true, ite_false, reduceIte, true_and, and_true, true_implies, forall_const, decide_eq_true_eq, decide_eq_false_iff_not, Bool.not_eq_true', Bool.not_eq_false', Bool.and_eq_true, Bool.or_eq_true, Bool.and_eq_false_iff, Bool.or_eq_false_iff, Bool.not_eq_true, Bool.not_eq_false, Bool.false_eq_true, Bool.true_eq_false, false_implies, implies_true, b2i_ne, b2i_eq, zB_b2i, not_true_eq_false, not_false_eq_true, List.drop_zero, List.drop_succ_cons, zIn_iff, zI8_iff, or_false, false_or, or_true, true_or, and_false, false_and, Decidable.not_not, laq hL]
  refine lpW (fun m e s => ∃ q : Nat, m = szT tp n k - q ∧ q ≤ szT tp n k ∧ s = σ ∧ e = [(3, 8), (1, (k : Int)), (1, numV tp n (plc tp n k) q), (1, (q : Int))]) ?_ (szT tp n k) _ _ ⟨0, rfl, Nat.zero_le _, rfl, rfl⟩
  rintro m e s ⟨q, rfl, hq, rfl, rfl⟩
  by_cases g : q < szT tp n k
  · have g' : ((q : Int) < (szT tp n k : Int)) = True := eq_true (by omega)
    have hD : isD (chr tp n (plc tp n k + q)) = true := dEnd_all (p := plc tp n k) (by omega) (by omega)
    have hlt : plc tp n k + q < n := by omega
    have bd := isD_bd hD
    have ev : s 9 (plc tp n k + q) = chr tp n (plc tp n k + q) := by
      rw [ht _ hlt]
      have r := hr _ hlt
      unfold chr at bd ⊢
      rw [if_pos hlt] at bd ⊢
      omega
    have nb := numV_bd (tp := tp) (n := n) (p := plc tp n k) (m := q) (fun i hi => dEnd_all (p := plc tp n k) (by omega) (by omega))
    have nb2 := pow8 (m := q) (by omega)
    have hin2 : (0 : Int) ≤ ((plc tp n k + q : Nat) : Int) ∧ ((plc tp n k + q : Nat) : Int) < ((2000 : Nat) : Int) := by omega
    have hm : szT tp n k - (q + 1) < szT tp n k - q := by omega
    have nb3 : numV tp n (plc tp n k) q ≤ 100000000 := by omega
    have qb : q < 2147483647 := by omega
    have ea : w32 (plT tp n k + (q : Int)) = ((plc tp n k + q : Nat) : Int) := w32add (by omega)
    have ew := w32num nb.1 nb3 bd.1 bd.2
    simp only [↓zwq, zpq, zgq, zhq, eq_sto, eq_kill, eq_zSto, eq_mset, eq_zGd, zsq, Int.reduceToNat, List.length_cons, List.length_nil, Nat.reduceAdd, Nat.reduceLT, Nat.reduceEqDiff, Int.reduceLT, Int.reduceLE, Int.reduceEq, Int.reduceNe, Int.reduceNeg, Int.reduceAdd, Int.reduceSub, Int.reduceMul, if_true, if_false, ite_true, ite_false, reduceIte, true_and, and_true, true_implies, forall_const, decide_eq_true_eq, decide_eq_false_iff_not, Bool.not_eq_true', Bool.not_eq_false', Bool.and_eq_true, Bool.or_eq_true, Bool.and_eq_false_iff, Bool.or_eq_false_iff, Bool.not_eq_true, Bool.not_eq_false, Bool.false_eq_true, Bool.true_eq_false, false_implies, implies_true, b2i_ne, b2i_eq, zB_b2i, not_true_eq_false, not_false_eq_true, List.drop_zero, List.drop_succ_cons, zIn_iff, zI8_iff, or_false, false_or, or_true, true_or, and_false, false_and, Decidable.not_not, laq hL, b1, b2, hin, Int.toNat_natCast, g', ea, hin2, ev, ew, w32s qb]
    exact ⟨_, hm, q + 1, rfl, g, rfl⟩
  · have g' : ((q : Int) < (szT tp n k : Int)) = False := eq_false (by omega)
    have eq : q = szT tp n k := by omega
    subst eq
    simp only [↓zwq, zpq, zgq, zhq, eq_sto, eq_kill, eq_zSto, eq_mset, eq_zGd, zsq, Int.reduceToNat, List.length_cons, List.length_nil, Nat.reduceAdd, Nat.reduceLT, Nat.reduceEqDiff, Int.reduceLT, Int.reduceLE, Int.reduceEq, Int.reduceNe, Int.reduceNeg, Int.reduceAdd, Int.reduceSub, Int.reduceMul, if_true, if_false, ite_true, ite_false, reduceIte, true_and, and_true, true_implies, forall_const, decide_eq_true_eq, decide_eq_false_iff_not, Bool.not_eq_true', Bool.not_eq_false', Bool.and_eq_true, Bool.or_eq_true, Bool.and_eq_false_iff, Bool.or_eq_false_iff, Bool.not_eq_true, Bool.not_eq_false, Bool.false_eq_true, Bool.true_eq_false, false_implies, implies_true, b2i_ne, b2i_eq, zB_b2i, not_true_eq_false, not_false_eq_true, List.drop_zero, List.drop_succ_cons, zIn_iff, zI8_iff, or_false, false_or, or_true, true_or, and_false, false_and, Decidable.not_not, laq hL, b1, b2, hin, Int.toNat_natCast, g']
    exact hR
theorem s48 (d : Nat) (h : XP tp n e tr pr ml i o N σ) (R T : zK) : zCallD (d + 2) 48 [7] σ R T = R (b2i (isAt (kdT tp n i))) σ := by
  have hL := h.lay
  simp only [c_48, b_48, ↓zwq, zpq, zgq, zhq, eq_sto, eq_kill, eq_zSto, eq_mset, eq_zGd, zsq, Int.reduceToNat, List.length_cons, List.length_nil, Nat.reduceAdd, Nat.reduceLT, Nat.reduceEqDiff, Int.reduceLT, Int.reduceLE, Int.reduceEq, Int.reduceNe, Int.reduceNeg, Int.reduceAdd, Int.reduceSub, Int.reduceMul, if_true, if_false, ite_true, ite_false, reduceIte, true_and, and_true, true_implies, forall_const, decide_eq_true_eq, decide_eq_false_iff_not, Bool.not_eq_true', Bool.not_eq_false', Bool.and_eq_true, Bool.or_eq_true, Bool.and_eq_false_iff, Bool.or_eq_false_iff, Bool.not_eq_true, Bool.not_eq_false, Bool.false_eq_true, Bool.true_eq_false, false_implies, implies_true, b2i_ne, b2i_eq, zB_b2i, not_true_eq_false, not_false_eq_true, List.drop_zero, List.drop_succ_cons, zIn_iff, zI8_iff, or_false, false_or, or_true, true_or, and_false, false_and, Decidable.not_not, s36 d h, nlit]
  unfold isAt
  by_cases h2 : kdT tp n i = 2
  · simp [h2]
  by_cases h4 : kdT tp n i = 4
  · simp [h4]
  by_cases h3 : kdT tp n i = 3
  · simp [h3]
  by_cases h9 : kdT tp n i = 9
  · simp [h9]
  simp [h2, h4, h3, h9]
theorem s47 (d : Nat) (h : XP tp n e tr pr ml i o N σ) (R T : zK) : zCallD (d + 3) 47 [7] σ R T = R (b2i (bgn (kdT tp n i))) σ := by
  have hL := h.lay
  simp only [c_47, b_47, ↓zwq, zpq, zgq, zhq, eq_sto, eq_kill, eq_zSto, eq_mset, eq_zGd, zsq, Int.reduceToNat, List.length_cons, List.length_nil, Nat.reduceAdd, Nat.reduceLT, Nat.reduceEqDiff, Int.reduceLT, Int.reduceLE, Int.reduceEq, Int.reduceNe, Int.reduceNeg, Int.reduceAdd, Int.reduceSub, Int.reduceMul, if_true, if_false, ite_true, ite_false, reduceIte, true_and, and_true, true_implies, forall_const, decide_eq_true_eq, decide_eq_false_iff_not, Bool.not_eq_true', Bool.not_eq_false', Bool.and_eq_true, Bool.or_eq_true, Bool.and_eq_false_iff, Bool.or_eq_false_iff, Bool.not_eq_true, Bool.not_eq_false, Bool.false_eq_true, Bool.true_eq_false, false_implies, implies_true, b2i_ne, b2i_eq, zB_b2i, not_true_eq_false, not_false_eq_true, List.drop_zero, List.drop_succ_cons, zIn_iff, zI8_iff, or_false, false_or, or_true, true_or, and_false, false_and, Decidable.not_not, s36 (d + 1) h, s48 d h, nlit]
  unfold bgn
  cases isAt (kdT tp n i) with
  | true => simp
  | false =>
    by_cases h2 : kdT tp n i = 16
    · simp [h2]
    by_cases h4 : kdT tp n i = 5
    · simp [h4]
    by_cases h3 : kdT tp n i = 7
    · simp [h3]
    simp [h2, h4, h3]
/-- aPlace -/
theorem s45 (d : Nat) (h : XP tp n e tr pr ml i o N σ) (hi : i < e) (hN : N < 4096) (hm : ml (i + 1) = ml i) (R T : zK)
    (hR : ∀ τ, XP tp n e tr pr ml (i + 1) o (N + 1) τ → XFr tr N σ τ → xr τ tr 0 N = 9 → xr τ tr 1 N = plT tp n i → xr τ tr 7 N = (if kdT tp n i = 24 then -1 else (i : Int)) → xr τ tr 6 N = -1 → R (N : Int) τ) : zCallD (d + 2) 45 [7] σ R T := by
  have hL := h.lay
  have ht := h.1.2.2.2.2.2.1
  have h2 := h.1.2.2.2.1
  have h4 := h.2.1
  have he := h.1.2.2.1
  have hb := h.1.2.1 i (Nat.le_of_lt hi)
  have hin : (0 : Int) ≤ (i : Int) ∧ (i : Int) < ((2002 : Nat) : Int) := by omega
  have hin2 : (0 : Int) ≤ (N : Int) ∧ (N : Int) < ((4096 : Nat) : Int) := by omega
  have hA := h.addN 9 (plT tp n i) (-1) 0 0
  have hL2 := hA.lay
  have q2 := hA.1.2.2.2.1
  have q4 := hA.2.1
  have t7 : (7 = tr + 8) = False := eq_false (by rcases ht with z | z | z | z <;> omega)
  have ib : i < 2147483647 := by omega
  have fin : ∀ v, v = (if kdT tp n i = 24 then -1 else (i : Int)) → R (N : Int) (mset (mset (addN tr N 9 (plT tp n i) (-1) 0 0 σ) (tr + 8) N v) 7 4 ((i + 1 : Nat) : Int)) := by
    intro v hv
    have f1 : XFr tr N σ (mset (addN tr N 9 (plT tp n i) (-1) 0 0 σ) (tr + 8) N v) := XFr.addN.setn (f := 7) rfl (by decide) (Nat.le_refl _)
    have x1 : XP tp n e tr pr ml i o (N + 1) (mset (addN tr N 9 (plT tp n i) (-1) 0 0 σ) (tr + 8) N v) := hA.setn (f := 7) rfl (by decide)
    have e7 : ∀ f, xr (mset (mset (addN tr N 9 (plT tp n i) (-1) 0 0 σ) (tr + 8) N v) 7 4 ((i + 1 : Nat) : Int)) tr f N = if f = 7 then v else xr (addN tr N 9 (plT tp n i) (-1) 0 0 σ) tr f N := by
      intro f
      rw [(XFr.at7 (k := N + 1) (b := 4) ht (Or.inl rfl)).2 f N (Nat.lt_succ_self _), xr_set (f := 7) rfl (by decide)]
      simp
    refine hR _ (x1.next hi hm) (f1.tr (XFr.at7 ht (Or.inl rfl)) (Nat.le_refl _)) ?_ ?_ ?_ ?_
    · rw [e7, if_neg (by decide), xr_add]; simp
    · rw [e7, if_neg (by decide), xr_add]; simp
    · rw [e7, if_pos rfl]; exact hv
    · rw [e7, if_neg (by decide), xr_add]; simp
  simp only [c_45, b_45, ↓zwq, zpq, zgq, zhq, eq_sto, eq_kill, eq_zSto, eq_mset, eq_zGd, zsq, Int.reduceToNat, List.length_cons, List.length_nil, Nat.reduceAdd, Nat.reduceLT, Nat.reduceEqDiff, Int.reduceLT, Int.reduceLE, Int.reduceEq, Int.reduceNe, Int.reduceNeg, Int.reduceAdd, Int.reduceSub, Int.reduceMul, if_true, if_false, ite_true, ite_false, reduceIte, true_and, and_true, true_implies, forall_const, decide_eq_true_eq, decide_eq_false_iff_not, Bool.not_eq_true', Bool.not_eq_false', Bool.and_eq_true, Bool.or_eq_true, Bool.and_eq_false_iff, Bool.or_eq_false_iff, Bool.not_eq_true, Bool.not_eq_false, Bool.false_eq_true, Bool.true_eq_false, false_implies, implies_true, b2i_ne, b2i_eq, zB_b2i, not_true_eq_false, not_false_eq_true, List.drop_zero, List.drop_succ_cons, zIn_iff, zI8_iff, or_false, false_or, or_true, true_or, and_false, false_and, Decidable.not_not, laq hL, h2, h4, hin, Int.toNat_natCast, hb, trs ht, s30 d hL ht h.2.2.2.1 hN, laq hL2, q2, q4, trq hL2 ht, hin2, s36 d hA, nlit, w32s ib, t7]
  constructor
  · intro z; exact fin _ (by rw [if_pos z])
  · intro z; exact fin _ (by rw [if_neg z])
end
