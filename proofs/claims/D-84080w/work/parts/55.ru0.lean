/-! rules, LazyForms: names alike, definitions, what breaks -/
section
variable {tp : Nat → Int} {n e tr pr : Nat} {σ : Mem}
theorem tok_in (tp : Nat → Int) (n i : Nat) : plc tp n i + szT tp n i ≤ n := by
  have a := plc_le tp n i
  by_cases h : plc tp n i < n
  · exact (tok_le h).2
  · have : tok tp n (plc tp n i) = (0, 0) := by unfold tok; rw [if_pos (by omega)]
    show plc tp n i + (tok tp n (plc tp n i)).2 ≤ n
    rw [this]; exact a
theorem NamT (h : XS tp n e tr pr σ) (i : Nat) : Nam σ 9 (plc tp n i) (nmT tp n i) := fun k hk => by
  have a := tok_in tp n i
  have b := nmT_len tp n i
  rw [nmT_at]; exact h.1.2.2.2 _ (by omega)
/-- same -/
theorem s27 (d : Nat) (h : XS tp n e tr pr σ) {j k : Nat} (hj : j ≤ e) (hk : k ≤ e) (R T : zK) (hR : R (b2i (decide (nmT tp n j = nmT tp n k))) σ) : zCallD (d + 1) 27 [8, (j : Int), (k : Int)] σ R T := by
  have hL := h.1.1
  have he := h.2.2.1
  have hn := h.1.2.2.1
  have bj := h.2.1 j hj
  have bk := h.2.1 k hk
  have aj := tok_in tp n j
  have ak := tok_in tp n k
  have lj := nmT_len tp n j
  have lk := nmT_len tp n k
  have ij : (0 : Int) ≤ (j : Int) ∧ (j : Int) < ((2002 : Nat) : Int) := by omega
  have ik : (0 : Int) ≤ (k : Int) ∧ (k : Int) < ((2002 : Nat) : Int) := by omega
  have zb0 : zB 0 = True := eq_true (Or.inl rfl)
  have zb1 : zB 1 = True := eq_true (Or.inr rfl)
  have nj := NamT h j
  have nk := NamT h k
  have e0 : b2i false = 0 := rfl
  have e1 : b2i true = 1 := rfl
  by_cases hs : szT tp n j = szT tp n k
  · have hs' : ((szT tp n j : Int) = (szT tp n k : Int)) = True := eq_true (by rw [hs])
    have key := Nam.eq nj nk (by rw [lj, lk, hs])
    rw [lk] at key
    simp only [c_27, b_27, ↓zwq, zpq, zgq, zhq, eq_sto, eq_kill, eq_zSto, eq_mset, eq_zGd, zsq, Int.reduceToNat, List.length_cons, List.length_nil, Nat.reduceAdd, Nat.reduceLT, Nat.reduceEqDiff, Int.reduceLT, Int.reduceLE, Int.reduceEq, Int.reduceNe, Int.reduceNeg, Int.reduceAdd, Int.reduceSub, Int.reduceMul, if_true, if_false, ite_true, ite_false, reduceIte, true_and, and_true, true_implies, forall_const, decide_eq_true_eq, decide_eq_false_iff_not, Bool.not_eq_true', Bool.not_eq_false', Bool.and_eq_true, Bool.or_eq_true, Bool.and_eq_false_iff, Bool.or_eq_false_iff, Bool.not_eq_true, Bool.not_eq_false, Bool.false_eq_true, Bool.true_eq_false, false_implies, implies_true, b2i_ne, b2i_eq, zB_b2i, not_true_eq_false, not_false_eq_true, List.drop_zero, List.drop_succ_cons, zIn_iff, zI8_iff, or_false, false_or, or_true, true_or, and_false, false_and, Decidable.not_not, laq hL, ij, ik, Int.toNat_natCast, bj.2.2, bk.2.2, hs']
    refine lpW (fun m en s => ∃ i, m = szT tp n k - i ∧ i ≤ szT tp n k ∧ s = σ ∧ (∀ q, q < i → σ 9 (plc tp n j + q) = σ 9 (plc tp n k + q)) ∧ en = [(3, 8), (1, (j : Int)), (1, (k : Int)), (1, (i : Int))]) ?_ (szT tp n k) _ _ ⟨0, rfl, Nat.zero_le _, rfl, fun q hq => by omega, rfl⟩
    rintro m en s ⟨i, rfl, hi, rfl, hq, rfl⟩
    by_cases g : i < szT tp n k
    · have g' : ((i : Int) < (szT tp n j : Int)) = True := eq_true (by omega)
      have i1 : (0 : Int) ≤ ((plc tp n j + i : Nat) : Int) ∧ ((plc tp n j + i : Nat) : Int) < ((2000 : Nat) : Int) := by omega
      have i2 : (0 : Int) ≤ ((plc tp n k + i : Nat) : Int) ∧ ((plc tp n k + i : Nat) : Int) < ((2000 : Nat) : Int) := by omega
      have b1 : plc tp n j + i < 2147483647 := by omega
      have b2 : plc tp n k + i < 2147483647 := by omega
      have hm : szT tp n k - (i + 1) < szT tp n k - i := by omega
      have ib : i < 2147483647 := by omega
      have w1 : w32 (plT tp n j + (i : Int)) = ((plc tp n j + i : Nat) : Int) := w32add b1
      have w2 : w32 (plT tp n k + (i : Int)) = ((plc tp n k + i : Nat) : Int) := w32add b2
      by_cases hh : s 9 (plc tp n j + i) = s 9 (plc tp n k + i)
      · simp only [↓zwq, zpq, zgq, zhq, eq_sto, eq_kill, eq_zSto, eq_mset, eq_zGd, zsq, Int.reduceToNat, List.length_cons, List.length_nil, Nat.reduceAdd, Nat.reduceLT, Nat.reduceEqDiff, Int.reduceLT, Int.reduceLE, Int.reduceEq, Int.reduceNe, Int.reduceNeg, Int.reduceAdd, Int.reduceSub, Int.reduceMul, if_true, if_false, ite_true, ite_false, reduceIte, true_and, and_true, true_implies, forall_const, decide_eq_true_eq, decide_eq_false_iff_not, Bool.not_eq_true', Bool.not_eq_false', Bool.and_eq_true, Bool.or_eq_true, Bool.and_eq_false_iff, Bool.or_eq_false_iff, Bool.not_eq_true, Bool.not_eq_false, Bool.false_eq_true, Bool.true_eq_false, false_implies, implies_true, b2i_ne, b2i_eq, zB_b2i, not_true_eq_false, not_false_eq_true, List.drop_zero, List.drop_succ_cons, zIn_iff, zI8_iff, or_false, false_or, or_true, true_or, and_false, false_and, Decidable.not_not, laq hL, ij, ik, Int.toNat_natCast, bj.2.2, bk.2.2, g', bj.2.1, bk.2.1, w1, w2, i1, i2, hh, w32s ib]
        refine ⟨_, hm, i + 1, rfl, g, fun q hq' => ?_, rfl⟩
        by_cases e : q = i
        · rw [e]; exact hh
        · exact hq q (Nat.lt_of_le_of_ne (Nat.le_of_lt_succ hq') e)
      · have hne : nmT tp n j ≠ nmT tp n k := fun z => hh (key.mpr z i g)
        rw [decide_eq_false hne, e0] at hR
        simp only [↓zwq, zpq, zgq, zhq, eq_sto, eq_kill, eq_zSto, eq_mset, eq_zGd, zsq, Int.reduceToNat, List.length_cons, List.length_nil, Nat.reduceAdd, Nat.reduceLT, Nat.reduceEqDiff, Int.reduceLT, Int.reduceLE, Int.reduceEq, Int.reduceNe, Int.reduceNeg, Int.reduceAdd, Int.reduceSub, Int.reduceMul, if_true, if_false, ite_true, ite_false, reduceIte, true_and, and_true, true_implies, forall_const, decide_eq_true_eq, decide_eq_false_iff_not, Bool.not_eq_true', Bool.not_eq_false', Bool.and_eq_true, Bool.or_eq_true, Bool.and_eq_false_iff, Bool.or_eq_false_iff, Bool.not_eq_true, Bool.not_eq_false, Bool.false_eq_true, Bool.true_eq_false, false_implies, implies_true, b2i_ne, b2i_eq, zB_b2i, not_true_eq_false, not_false_eq_true, List.drop_zero, List.drop_succ_cons, zIn_iff, zI8_iff, or_false, false_or, or_true, true_or, and_false, false_and, Decidable.not_not, laq hL, ij, ik, Int.toNat_natCast, bj.2.2, bk.2.2, g', bj.2.1, bk.2.1, w1, w2, i1, i2, hh, zb0]
        exact hR
    · have g' : ((i : Int) < (szT tp n j : Int)) = False := eq_false (by omega)
      have ei : i = szT tp n k := by omega
      subst ei
      rw [decide_eq_true (key.mp hq), e1] at hR
      simp only [↓zwq, zpq, zgq, zhq, eq_sto, eq_kill, eq_zSto, eq_mset, eq_zGd, zsq, Int.reduceToNat, List.length_cons, List.length_nil, Nat.reduceAdd, Nat.reduceLT, Nat.reduceEqDiff, Int.reduceLT, Int.reduceLE, Int.reduceEq, Int.reduceNe, Int.reduceNeg, Int.reduceAdd, Int.reduceSub, Int.reduceMul, if_true, if_false, ite_true, ite_false, reduceIte, true_and, and_true, true_implies, forall_const, decide_eq_true_eq, decide_eq_false_iff_not, Bool.not_eq_true', Bool.not_eq_false', Bool.and_eq_true, Bool.or_eq_true, Bool.and_eq_false_iff, Bool.or_eq_false_iff, Bool.not_eq_true, Bool.not_eq_false, Bool.false_eq_true, Bool.true_eq_false, false_implies, implies_true, b2i_ne, b2i_eq, zB_b2i, not_true_eq_false, not_false_eq_true, List.drop_zero, List.drop_succ_cons, zIn_iff, zI8_iff, or_false, false_or, or_true, true_or, and_false, false_and, Decidable.not_not, laq hL, ij, ik, Int.toNat_natCast, bj.2.2, bk.2.2, g', zb1]
      exact hR
  · have hs' : ((szT tp n j : Int) = (szT tp n k : Int)) = False := eq_false (fun z => hs (Int.ofNat.inj z))
    have hne : nmT tp n j ≠ nmT tp n k := fun z => hs (by rw [← lj, ← lk, z])
    rw [decide_eq_false hne, e0] at hR
    simp only [c_27, b_27, ↓zwq, zpq, zgq, zhq, eq_sto, eq_kill, eq_zSto, eq_mset, eq_zGd, zsq, Int.reduceToNat, List.length_cons, List.length_nil, Nat.reduceAdd, Nat.reduceLT, Nat.reduceEqDiff, Int.reduceLT, Int.reduceLE, Int.reduceEq, Int.reduceNe, Int.reduceNeg, Int.reduceAdd, Int.reduceSub, Int.reduceMul, if_true, if_false, ite_true, ite_false, reduceIte, true_and, and_true, true_implies, forall_const, decide_eq_true_eq, decide_eq_false_iff_not, Bool.not_eq_true', Bool.not_eq_false', Bool.and_eq_true, Bool.or_eq_true, Bool.and_eq_false_iff, Bool.or_eq_false_iff, Bool.not_eq_true, Bool.not_eq_false, Bool.false_eq_true, Bool.true_eq_false, false_implies, implies_true, b2i_ne, b2i_eq, zB_b2i, not_true_eq_false, not_false_eq_true, List.drop_zero, List.drop_succ_cons, zIn_iff, zI8_iff, or_false, false_or, or_true, true_or, and_false, false_and, Decidable.not_not, laq hL, ij, ik, Int.toNat_natCast, bj.2.2, bk.2.2, hs', zb0]
    exact hR
/-- a tree's definitions: their names -/
def DTab (t : Nat) (L : List (List Int)) (σ : Mem) : Prop := σ t 16 = (L.length : Int) ∧ ∀ m (hm : m < L.length), σ (t + 12) m = ((L[m]).length : Int) ∧ ∀ i (hi : i < (L[m]).length), σ (t + 11) (12 * m + i) = (L[m])[i]
/-- Tree.definition -/
theorem s33 (d : Nat) {t fr : Nat} {L : List (List Int)} {w : List Int} (hL : Lay σ) (ht : isTr t) (hT : DTab t L σ) (hLl : L.length ≤ 40) (h12 : ∀ m (hm : m < L.length), L[m].length ≤ 12) (hw : Nam σ 9 fr w) (hfr : fr + w.length ≤ 2000) (R T : zK) (hR : R (fndZ L w) σ) : zCallD (d + 2) 33 [(t : Int), 9, (fr : Int), (w.length : Int)] σ R T := by
  simp only [c_33, b_33, ↓zwq, zpq, zgq, zhq, eq_sto, eq_kill, eq_zSto, eq_mset, eq_zGd, zsq, Int.reduceToNat, List.length_cons, List.length_nil, Nat.reduceAdd, Nat.reduceLT, Nat.reduceEqDiff, Int.reduceLT, Int.reduceLE, Int.reduceEq, Int.reduceNe, Int.reduceNeg, Int.reduceAdd, Int.reduceSub, Int.reduceMul, if_true, if_false, ite_true, ite_false, reduceIte, true_and, and_true, true_implies, forall_const, decide_eq_true_eq, decide_eq_false_iff_not, Bool.not_eq_true', Bool.not_eq_false', Bool.and_eq_true, Bool.or_eq_true, Bool.and_eq_false_iff, Bool.or_eq_false_iff, Bool.not_eq_true, Bool.not_eq_false, Bool.false_eq_true, Bool.true_eq_false, false_implies, implies_true, b2i_ne, b2i_eq, zB_b2i, not_true_eq_false, not_false_eq_true, List.drop_zero, List.drop_succ_cons, zIn_iff, zI8_iff, or_false, false_or, or_true, true_or, and_false, false_and, Decidable.not_not, Int.toNat_natCast, trs ht]
  refine lpW (fun m en s => ∃ i, m = L.length - i ∧ i ≤ L.length ∧ s = σ ∧ (∀ k (hk : k < L.length), k < i → L[k] ≠ w) ∧ en = [(3, (t : Int)), (3, 9), (1, (fr : Int)), (1, (w.length : Int)), (1, (i : Int))]) ?_ L.length _ _ ⟨0, rfl, Nat.zero_le _, rfl, fun k hk hk0 => by omega, rfl⟩
  rintro m en s ⟨i, rfl, hi, rfl, hk, rfl⟩
  by_cases g : i < L.length
  · have g' : ((i : Int) < (L.length : Int)) = True := eq_true (by omega)
    have i1 : (0 : Int) ≤ (i : Int) ∧ (i : Int) < ((41 : Nat) : Int) := by omega
    have hm : L.length - (i + 1) < L.length - i := by omega
    have ib : i < 2147483647 := by omega
    have i700 : i ≤ 700 := by omega
    have hsz := (hT.2 i g).1
    have hnm : Nam s (t + 11) (12 * i) L[i] := fun k hk => (hT.2 i g).2 k hk
    have nxt : L[i] ≠ w → ∃ m, m < L.length - i ∧ ∃ i', m = L.length - i' ∧ i' ≤ L.length ∧ (∀ k (hk : k < L.length), k < i' → L[k] ≠ w) ∧ [(3, (t : Int)), (3, 9), (1, (fr : Int)), (1, (w.length : Int)), (1, ((i + 1 : Nat) : Int))] = [(3, (t : Int)), (3, 9), (1, (fr : Int)), (1, (w.length : Int)), (1, (i' : Int))] := fun hne => ⟨_, hm, i + 1, rfl, g, fun k hk1 hk2 => by
      by_cases e : k = i
      · subst e; exact hne
      · exact hk k hk1 (Nat.lt_of_le_of_ne (Nat.le_of_lt_succ hk2) e), rfl⟩
    by_cases hl : L[i].length = w.length
    · have hl' : ((L[i].length : Int) = (w.length : Int)) = True := eq_true (by rw [hl])
      have hwl : w.length ≤ 12 := by rw [← hl]; exact h12 i g
      have b3 : 12 * i + w.length ≤ 492 := by omega
      simp only [↓zwq, zpq, zgq, zhq, eq_sto, eq_kill, eq_zSto, eq_mset, eq_zGd, zsq, Int.reduceToNat, List.length_cons, List.length_nil, Nat.reduceAdd, Nat.reduceLT, Nat.reduceEqDiff, Int.reduceLT, Int.reduceLE, Int.reduceEq, Int.reduceNe, Int.reduceNeg, Int.reduceAdd, Int.reduceSub, Int.reduceMul, if_true, if_false, ite_true, ite_false, reduceIte, true_and, and_true, true_implies, forall_const, decide_eq_true_eq, decide_eq_false_iff_not, Bool.not_eq_true', Bool.not_eq_false', Bool.and_eq_true, Bool.or_eq_true, Bool.and_eq_false_iff, Bool.or_eq_false_iff, Bool.not_eq_true, Bool.not_eq_false, Bool.false_eq_true, Bool.true_eq_false, false_implies, implies_true, b2i_ne, b2i_eq, zB_b2i, not_true_eq_false, not_false_eq_true, List.drop_zero, List.drop_succ_cons, zIn_iff, zI8_iff, or_false, false_or, or_true, true_or, and_false, false_and, Decidable.not_not, g', Int.toNat_natCast, trs ht, trq hL ht, hT.1, i1, hsz, hl', w32m12 i700]
      refine s34 d (a := t + 11) (b := 9) (la := 492) (lb := 2000) (by omega) (by omega) ((trs ht).2.2.2.2.2.2.2.2.2.2.2.1 s) rfl b3 hfr (by omega) (by omega) _ _ (fun r hr => ?_)
      rw [Nam.eq hnm hw hl] at hr
      cases r with
      | true =>
        have he : L[i] = w := hr.mp rfl
        have : fndZ L w = (i : Int) := by unfold fndZ; rw [fndI_some g he (fun k hk' => hk k _ hk')]
        rw [this] at hR
        simp only [↓zwq, zpq, zgq, zhq, eq_sto, eq_kill, eq_zSto, eq_mset, eq_zGd, zsq, Int.reduceToNat, List.length_cons, List.length_nil, Nat.reduceAdd, Nat.reduceLT, Nat.reduceEqDiff, Int.reduceLT, Int.reduceLE, Int.reduceEq, Int.reduceNe, Int.reduceNeg, Int.reduceAdd, Int.reduceSub, Int.reduceMul, if_true, if_false, ite_true, ite_false, reduceIte, true_and, and_true, true_implies, forall_const, decide_eq_true_eq, decide_eq_false_iff_not, Bool.not_eq_true', Bool.not_eq_false', Bool.and_eq_true, Bool.or_eq_true, Bool.and_eq_false_iff, Bool.or_eq_false_iff, Bool.not_eq_true, Bool.not_eq_false, Bool.false_eq_true, Bool.true_eq_false, false_implies, implies_true, b2i_ne, b2i_eq, zB_b2i, not_true_eq_false, not_false_eq_true, List.drop_zero, List.drop_succ_cons, zIn_iff, zI8_iff, or_false, false_or, or_true, true_or, and_false, false_and, Decidable.not_not]
        exact hR
      | false =>
        have he : L[i] ≠ w := fun z => absurd (hr.mpr z) (by decide)
        simp only [↓zwq, zpq, zgq, zhq, eq_sto, eq_kill, eq_zSto, eq_mset, eq_zGd, zsq, Int.reduceToNat, List.length_cons, List.length_nil, Nat.reduceAdd, Nat.reduceLT, Nat.reduceEqDiff, Int.reduceLT, Int.reduceLE, Int.reduceEq, Int.reduceNe, Int.reduceNeg, Int.reduceAdd, Int.reduceSub, Int.reduceMul, if_true, if_false, ite_true, ite_false, reduceIte, true_and, and_true, true_implies, forall_const, decide_eq_true_eq, decide_eq_false_iff_not, Bool.not_eq_true', Bool.not_eq_false', Bool.and_eq_true, Bool.or_eq_true, Bool.and_eq_false_iff, Bool.or_eq_false_iff, Bool.not_eq_true, Bool.not_eq_false, Bool.false_eq_true, Bool.true_eq_false, false_implies, implies_true, b2i_ne, b2i_eq, zB_b2i, not_true_eq_false, not_false_eq_true, List.drop_zero, List.drop_succ_cons, zIn_iff, zI8_iff, or_false, false_or, or_true, true_or, and_false, false_and, Decidable.not_not, w32s ib]
        exact nxt he
    · have hl' : ((L[i].length : Int) = (w.length : Int)) = False := eq_false (fun z => hl (Int.ofNat.inj z))
      simp only [↓zwq, zpq, zgq, zhq, eq_sto, eq_kill, eq_zSto, eq_mset, eq_zGd, zsq, Int.reduceToNat, List.length_cons, List.length_nil, Nat.reduceAdd, Nat.reduceLT, Nat.reduceEqDiff, Int.reduceLT, Int.reduceLE, Int.reduceEq, Int.reduceNe, Int.reduceNeg, Int.reduceAdd, Int.reduceSub, Int.reduceMul, if_true, if_false, ite_true, ite_false, reduceIte, true_and, and_true, true_implies, forall_const, decide_eq_true_eq, decide_eq_false_iff_not, Bool.not_eq_true', Bool.not_eq_false', Bool.and_eq_true, Bool.or_eq_true, Bool.and_eq_false_iff, Bool.or_eq_false_iff, Bool.not_eq_true, Bool.not_eq_false, Bool.false_eq_true, Bool.true_eq_false, false_implies, implies_true, b2i_ne, b2i_eq, zB_b2i, not_true_eq_false, not_false_eq_true, List.drop_zero, List.drop_succ_cons, zIn_iff, zI8_iff, or_false, false_or, or_true, true_or, and_false, false_and, Decidable.not_not, g', Int.toNat_natCast, trs ht, trq hL ht, hT.1, i1, hsz, hl', w32s ib]
      exact nxt (fun z => hl (by rw [z]))
  · have g' : ((i : Int) < (L.length : Int)) = False := eq_false (by omega)
    have ei : i = L.length := by omega
    subst ei
    have : fndZ L w = -1 := by unfold fndZ; rw [fndI_none (fun k hk' => hk k hk' hk')]
    rw [this] at hR
    simp only [↓zwq, zpq, zgq, zhq, eq_sto, eq_kill, eq_zSto, eq_mset, eq_zGd, zsq, Int.reduceToNat, List.length_cons, List.length_nil, Nat.reduceAdd, Nat.reduceLT, Nat.reduceEqDiff, Int.reduceLT, Int.reduceLE, Int.reduceEq, Int.reduceNe, Int.reduceNeg, Int.reduceAdd, Int.reduceSub, Int.reduceMul, if_true, if_false, ite_true, ite_false, reduceIte, true_and, and_true, true_implies, forall_const, decide_eq_true_eq, decide_eq_false_iff_not, Bool.not_eq_true', Bool.not_eq_false', Bool.and_eq_true, Bool.or_eq_true, Bool.and_eq_false_iff, Bool.or_eq_false_iff, Bool.not_eq_true, Bool.not_eq_false, Bool.false_eq_true, Bool.true_eq_false, false_implies, implies_true, b2i_ne, b2i_eq, zB_b2i, not_true_eq_false, not_false_eq_true, List.drop_zero, List.drop_succ_cons, zIn_iff, zI8_iff, or_false, false_or, or_true, true_or, and_false, false_and, Decidable.not_not, g', Int.toNat_natCast, trs ht, trq hL ht, hT.1]
    exact hR
end
/-- the first place where a rule is broken; 1000000 if none is -/
def XF (m : Nat) (σ : Mem) : Prop := (m = 1000000 ∧ σ 7 6 = 0) ∨ (m < 1000000 ∧ σ 7 6 = 2 ∧ σ 7 7 = (m : Int))
/-- breaks -/
theorem s60 (d : Nat) {σ : Mem} {m p : Nat} (hL : Lay σ) (h : XF m σ) (hp : p < 1000000) (R T : zK) (hR : ∀ τ, Fr (fun o k => o == 7 && (k == 6 || k == 7)) σ τ → XF (min m p) τ → R 0 τ) : zCallD (d + 1) 60 [7, (p : Int)] σ R T := by
  rcases h with ⟨rfl, h6⟩ | ⟨hm, h6, h7⟩
  · simp only [c_60, b_60, ↓zwq, zpq, zgq, zhq, eq_sto, eq_kill, eq_zSto, eq_mset, eq_zGd, zsq, Int.reduceToNat, List.length_cons, List.length_nil, Nat.reduceAdd, Nat.reduceLT, Nat.reduceEqDiff, Int.reduceLT, Int.reduceLE, Int.reduceEq, Int.reduceNe, Int.reduceNeg, Int.reduceAdd, Int.reduceSub, Int.reduceMul, if_true, if_false, ite_true, ite_false, reduceIte, true_and, and_true, true_implies, forall_const, decide_eq_true_eq, decide_eq_false_iff_not, Bool.not_eq_true', Bool.not_eq_false', Bool.and_eq_true, Bool.or_eq_true, Bool.and_eq_false_iff, Bool.or_eq_false_iff, Bool.not_eq_true, Bool.not_eq_false, Bool.false_eq_true, Bool.true_eq_false, false_implies, implies_true, b2i_ne, b2i_eq, zB_b2i, not_true_eq_false, not_false_eq_true, List.drop_zero, List.drop_succ_cons, zIn_iff, zI8_iff, or_false, false_or, or_true, true_or, and_false, false_and, Decidable.not_not, laq hL, h6]
    refine hR _ ((Fr.rf.set (by simp)).set (by simp)) (Or.inr ⟨by omega, by simp [eq_mset], ?_⟩)
    rw [Nat.min_eq_right (by omega)]; simp [eq_mset]
  · by_cases g : p < m
    · have g' : ((p : Int) < (m : Int)) = True := eq_true (by omega)
      simp only [c_60, b_60, ↓zwq, zpq, zgq, zhq, eq_sto, eq_kill, eq_zSto, eq_mset, eq_zGd, zsq, Int.reduceToNat, List.length_cons, List.length_nil, Nat.reduceAdd, Nat.reduceLT, Nat.reduceEqDiff, Int.reduceLT, Int.reduceLE, Int.reduceEq, Int.reduceNe, Int.reduceNeg, Int.reduceAdd, Int.reduceSub, Int.reduceMul, if_true, if_false, ite_true, ite_false, reduceIte, true_and, and_true, true_implies, forall_const, decide_eq_true_eq, decide_eq_false_iff_not, Bool.not_eq_true', Bool.not_eq_false', Bool.and_eq_true, Bool.or_eq_true, Bool.and_eq_false_iff, Bool.or_eq_false_iff, Bool.not_eq_true, Bool.not_eq_false, Bool.false_eq_true, Bool.true_eq_false, false_implies, implies_true, b2i_ne, b2i_eq, zB_b2i, not_true_eq_false, not_false_eq_true, List.drop_zero, List.drop_succ_cons, zIn_iff, zI8_iff, or_false, false_or, or_true, true_or, and_false, false_and, Decidable.not_not, laq hL, h6, h7, g']
      refine hR _ ((Fr.rf.set (by simp)).set (by simp)) (Or.inr ⟨by omega, by simp [eq_mset], ?_⟩)
      rw [Nat.min_eq_right (by omega)]; simp [eq_mset]
    · have g' : ((p : Int) < (m : Int)) = False := eq_false (by omega)
      simp only [c_60, b_60, ↓zwq, zpq, zgq, zhq, eq_sto, eq_kill, eq_zSto, eq_mset, eq_zGd, zsq, Int.reduceToNat, List.length_cons, List.length_nil, Nat.reduceAdd, Nat.reduceLT, Nat.reduceEqDiff, Int.reduceLT, Int.reduceLE, Int.reduceEq, Int.reduceNe, Int.reduceNeg, Int.reduceAdd, Int.reduceSub, Int.reduceMul, if_true, if_false, ite_true, ite_false, reduceIte, true_and, and_true, true_implies, forall_const, decide_eq_true_eq, decide_eq_false_iff_not, Bool.not_eq_true', Bool.not_eq_false', Bool.and_eq_true, Bool.or_eq_true, Bool.and_eq_false_iff, Bool.or_eq_false_iff, Bool.not_eq_true, Bool.not_eq_false, Bool.false_eq_true, Bool.true_eq_false, false_implies, implies_true, b2i_ne, b2i_eq, zB_b2i, not_true_eq_false, not_false_eq_true, List.drop_zero, List.drop_succ_cons, zIn_iff, zI8_iff, or_false, false_or, or_true, true_or, and_false, false_and, Decidable.not_not, laq hL, h6, h7, g']
      refine hR _ (Fr.rf.set (by simp)) (Or.inr ⟨by omega, by simp [eq_mset], ?_⟩)
      rw [Nat.min_eq_left (by omega)]; simp [eq_mset, h7]
