/-! rules, LazyFormsModel: names by their places -/
def endAt (σ : Mem) (p en : Nat) : Prop := (8000 ≤ p ∧ en = 8009) ∨ (p < 8000 ∧ ∃ z : Nat, z ≤ 2000 ∧ σ 93 (p / 2000) = (z : Int) ∧ en = 2000 * (p / 2000) + z)
def goes (σ : Mem) (en k : Nat) : Prop := k < en ∧ sWd (σ 92 k) = true ∧ k ≠ 8004
/-- the name w stands at the place p -/
def NA (σ : Mem) (p : Nat) (w : List Int) : Prop := ∃ en, endAt σ p en ∧ 0 < w.length ∧ p + w.length ≤ en ∧ (∀ k (hk : k < w.length), σ 92 (p + k) = w[k]) ∧ (∀ k, 1 ≤ k → k < w.length → goes σ en (p + k)) ∧ ¬ goes σ en (p + w.length)
theorem endAt_le {σ : Mem} {p en : Nat} (h : endAt σ p en) : en ≤ 8009 := by
  rcases h with ⟨_, h⟩ | ⟨h1, z, hz, _, h⟩
  · omega
  · have : p / 2000 ≤ 3 := by omega
    omega
theorem s142 (d : Nat) {σ : Mem} {p : Nat} {w : List Int} (hL : Lay σ) (hb : ∀ k, -128 ≤ σ 92 k ∧ σ 92 k < 128) (h : NA σ p w) (R T : zK) : R (w.length : Int) σ → zCallD (d + 3) 142 [90, (p : Int)] σ R T := by
  intro hR
  obtain ⟨en, h1, h2, h3, h4, h5, h6⟩ := h
  have hen := endAt_le h1
  have e0 : ((2000 : Int) ≠ 0) = True := by simp
  have main : zLpW (cAnd (cAnd (cP (kI .lt (p2 oAdd (pL 1 1) (pL 1 3)) (pL 1 2))) (c0 .ne (eCall 134 [(eBy (p1 (oGf 6 2 3) (pL 3 0)) (p2 oAdd (pL 1 1) (pL 1 3)))]))) (cP (kI .ne (p2 oAdd (pL 1 1) (pL 1 3)) (pI 8004)))) (sInc 3 1) sSkip (zCallD (d + 2)) [(3, 90), (1, (p : Int)), (1, (en : Int)), (1, 1)] σ (fun e s => s = σ ∧ e = [(3, 90), (1, (p : Int)), (1, (en : Int)), (1, (w.length : Int))]) R T := by
    refine lpW (fun m en' s => ∃ i, m = w.length - i ∧ 1 ≤ i ∧ i ≤ w.length ∧ s = σ ∧ en' = [(3, 90), (1, (p : Int)), (1, (en : Int)), (1, (i : Int))]) ?_ (w.length - 1) _ _ ⟨1, rfl, Nat.le_refl _, h2, rfl, rfl⟩
    rintro m en' s ⟨i, rfl, hi1, hi, rfl, rfl⟩
    have ib : i < 2147483647 := by omega
    have b1 : p + i < 2147483647 := by omega
    have hm : i < w.length → w.length - (i + 1) < w.length - i := by omega
    have i1 : p + i < en → (0 : Int) ≤ ((p + i : Nat) : Int) ∧ ((p + i : Nat) : Int) < ((8011 : Nat) : Int) := fun _ => by omega
    have c1 : (((p + i : Nat) : Int) < (en : Int)) = (p + i < en) := propext (by omega)
    have c2 : (((p + i : Nat) : Int) = 8004) = (p + i = 8004) := propext (by omega)
    have w1 : w32 ((p : Int) + (i : Int)) = ((p + i : Nat) : Int) := w32add b1
    by_cases g : goes s en (p + i)
    · have hlt : i < w.length := by
        refine Nat.lt_of_le_of_ne hi fun z => h6 ?_
        rw [← z]; exact g
      simp only [↓zwq, zpq, zgq, zhq, eq_sto, eq_kill, eq_zSto, eq_mset, eq_zGd, zsq, Int.reduceToNat, List.length_cons, List.length_nil, Nat.reduceAdd, Nat.reduceLT, Nat.reduceEqDiff, Int.reduceLT, Int.reduceLE, Int.reduceEq, Int.reduceNe, Int.reduceNeg, Int.reduceAdd, Int.reduceSub, Int.reduceMul, if_true, if_false, ite_true, ite_false, reduceIte, true_and, and_true, true_implies, forall_const, decide_eq_true_eq, decide_eq_false_iff_not, Bool.not_eq_true', Bool.not_eq_false', Bool.and_eq_true, Bool.or_eq_true, Bool.and_eq_false_iff, Bool.or_eq_false_iff, Bool.not_eq_true, Bool.not_eq_false, Bool.false_eq_true, Bool.true_eq_false, false_implies, implies_true, b2i_ne, b2i_eq, zB_b2i, not_true_eq_false, not_false_eq_true, List.drop_zero, List.drop_succ_cons, zIn_iff, zI8_iff, or_false, false_or, or_true, true_or, and_false, false_and, Decidable.not_not, w1, c1, c2, g.1, g.2.1, g.2.2, laq hL, i1 g.1, Int.toNat_natCast, hb (p + i), s134 d, w32s ib]
      exact ⟨_, hm hlt, i + 1, rfl, Nat.le_succ_of_le hi1, hlt, rfl⟩
    · have ei : i = w.length := by
        refine Decidable.byContradiction fun z => g (h5 i hi1 (Nat.lt_of_le_of_ne hi z))
      subst ei
      by_cases g1 : p + w.length < en
      · by_cases g2 : sWd (s 92 (p + w.length)) = true
        · have g3 : p + w.length = 8004 := Decidable.byContradiction fun z => g ⟨g1, g2, z⟩
          have c2t : (((p + w.length : Nat) : Int) = 8004) = True := c2.trans (eq_true g3)
          simp only [↓zwq, zpq, zgq, zhq, eq_sto, eq_kill, eq_zSto, eq_mset, eq_zGd, zsq, Int.reduceToNat, List.length_cons, List.length_nil, Nat.reduceAdd, Nat.reduceLT, Nat.reduceEqDiff, Int.reduceLT, Int.reduceLE, Int.reduceEq, Int.reduceNe, Int.reduceNeg, Int.reduceAdd, Int.reduceSub, Int.reduceMul, if_true, if_false, ite_true, ite_false, reduceIte, true_and, and_true, true_implies, forall_const, decide_eq_true_eq, decide_eq_false_iff_not, Bool.not_eq_true', Bool.not_eq_false', Bool.and_eq_true, Bool.or_eq_true, Bool.and_eq_false_iff, Bool.or_eq_false_iff, Bool.not_eq_true, Bool.not_eq_false, Bool.false_eq_true, Bool.true_eq_false, false_implies, implies_true, b2i_ne, b2i_eq, zB_b2i, not_true_eq_false, not_false_eq_true, List.drop_zero, List.drop_succ_cons, zIn_iff, zI8_iff, or_false, false_or, or_true, true_or, and_false, false_and, Decidable.not_not, w1, c1, c2t, g1, laq hL, i1 g1, Int.toNat_natCast, hb (p + w.length), s134 d, g2]
        · simp only [Bool.not_eq_true] at g2
          simp only [↓zwq, zpq, zgq, zhq, eq_sto, eq_kill, eq_zSto, eq_mset, eq_zGd, zsq, Int.reduceToNat, List.length_cons, List.length_nil, Nat.reduceAdd, Nat.reduceLT, Nat.reduceEqDiff, Int.reduceLT, Int.reduceLE, Int.reduceEq, Int.reduceNe, Int.reduceNeg, Int.reduceAdd, Int.reduceSub, Int.reduceMul, if_true, if_false, ite_true, ite_false, reduceIte, true_and, and_true, true_implies, forall_const, decide_eq_true_eq, decide_eq_false_iff_not, Bool.not_eq_true', Bool.not_eq_false', Bool.and_eq_true, Bool.or_eq_true, Bool.and_eq_false_iff, Bool.or_eq_false_iff, Bool.not_eq_true, Bool.not_eq_false, Bool.false_eq_true, Bool.true_eq_false, false_implies, implies_true, b2i_ne, b2i_eq, zB_b2i, not_true_eq_false, not_false_eq_true, List.drop_zero, List.drop_succ_cons, zIn_iff, zI8_iff, or_false, false_or, or_true, true_or, and_false, false_and, Decidable.not_not, w1, c1, c2, g1, laq hL, i1 g1, Int.toNat_natCast, hb (p + w.length), s134 d, g2]
      · simp only [↓zwq, zpq, zgq, zhq, eq_sto, eq_kill, eq_zSto, eq_mset, eq_zGd, zsq, Int.reduceToNat, List.length_cons, List.length_nil, Nat.reduceAdd, Nat.reduceLT, Nat.reduceEqDiff, Int.reduceLT, Int.reduceLE, Int.reduceEq, Int.reduceNe, Int.reduceNeg, Int.reduceAdd, Int.reduceSub, Int.reduceMul, if_true, if_false, ite_true, ite_false, reduceIte, true_and, and_true, true_implies, forall_const, decide_eq_true_eq, decide_eq_false_iff_not, Bool.not_eq_true', Bool.not_eq_false', Bool.and_eq_true, Bool.or_eq_true, Bool.and_eq_false_iff, Bool.or_eq_false_iff, Bool.not_eq_true, Bool.not_eq_false, Bool.false_eq_true, Bool.true_eq_false, false_implies, implies_true, b2i_ne, b2i_eq, zB_b2i, not_true_eq_false, not_false_eq_true, List.drop_zero, List.drop_succ_cons, zIn_iff, zI8_iff, or_false, false_or, or_true, true_or, and_false, false_and, Decidable.not_not, w1, c1, c2, g1]
  have stp : ∀ N : zV, N [(3, 90), (1, (p : Int)), (1, (en : Int)), (1, (w.length : Int))] σ → zLpW (cAnd (cAnd (cP (kI .lt (p2 oAdd (pL 1 1) (pL 1 3)) (pL 1 2))) (c0 .ne (eCall 134 [(eBy (p1 (oGf 6 2 3) (pL 3 0)) (p2 oAdd (pL 1 1) (pL 1 3)))]))) (cP (kI .ne (p2 oAdd (pL 1 1) (pL 1 3)) (pI 8004)))) (sInc 3 1) sSkip (zCallD (d + 2)) [(3, 90), (1, (p : Int)), (1, (en : Int)), (1, 1)] σ N R T := fun N hN => zLpW_mono (zCallD_mono _) (fun e s ⟨a, b⟩ => by subst a; subst b; exact hN) (fun _ _ => id) (fun _ _ => id) main
  clear main
  rcases h1 with ⟨g, rfl⟩ | ⟨g, z, hz, h93, rfl⟩
  · have g' : (8000 ≤ (p : Int)) = True := eq_true (by omega)
    simp only [c_142, b_142, ↓zwq, zpq, zgq, zhq, eq_sto, eq_kill, eq_zSto, eq_mset, eq_zGd, zsq, Int.reduceToNat, List.length_cons, List.length_nil, Nat.reduceAdd, Nat.reduceLT, Nat.reduceEqDiff, Int.reduceLT, Int.reduceLE, Int.reduceEq, Int.reduceNe, Int.reduceNeg, Int.reduceAdd, Int.reduceSub, Int.reduceMul, if_true, if_false, ite_true, ite_false, reduceIte, true_and, and_true, true_implies, forall_const, decide_eq_true_eq, decide_eq_false_iff_not, Bool.not_eq_true', Bool.not_eq_false', Bool.and_eq_true, Bool.or_eq_true, Bool.and_eq_false_iff, Bool.or_eq_false_iff, Bool.not_eq_true, Bool.not_eq_false, Bool.false_eq_true, Bool.true_eq_false, false_implies, implies_true, b2i_ne, b2i_eq, zB_b2i, not_true_eq_false, not_false_eq_true, List.drop_zero, List.drop_succ_cons, zIn_iff, zI8_iff, or_false, false_or, or_true, true_or, and_false, false_and, Decidable.not_not, laq hL, g']
    refine stp _ ?_
    simp only [↓zwq, zpq, zgq, zhq, eq_sto, eq_kill, eq_zSto, eq_mset, eq_zGd, zsq, Int.reduceToNat, List.length_cons, List.length_nil, Nat.reduceAdd, Nat.reduceLT, Nat.reduceEqDiff, Int.reduceLT, Int.reduceLE, Int.reduceEq, Int.reduceNe, Int.reduceNeg, Int.reduceAdd, Int.reduceSub, Int.reduceMul, if_true, if_false, ite_true, ite_false, reduceIte, true_and, and_true, true_implies, forall_const, decide_eq_true_eq, decide_eq_false_iff_not, Bool.not_eq_true', Bool.not_eq_false', Bool.and_eq_true, Bool.or_eq_true, Bool.and_eq_false_iff, Bool.or_eq_false_iff, Bool.not_eq_true, Bool.not_eq_false, Bool.false_eq_true, Bool.true_eq_false, false_implies, implies_true, b2i_ne, b2i_eq, zB_b2i, not_true_eq_false, not_false_eq_true, List.drop_zero, List.drop_succ_cons, zIn_iff, zI8_iff, or_false, false_or, or_true, true_or, and_false, false_and, Decidable.not_not]
    exact hR
  · have g' : (8000 ≤ (p : Int)) = False := eq_false (by omega)
    have q3 : p / 2000 ≤ 3 := by omega
    have hin : (0 : Int) ≤ ((p / 2000 : Nat) : Int) ∧ ((p / 2000 : Nat) : Int) < ((4 : Nat) : Int) := by omega
    have b2 : 2000 * (p / 2000) + z < 2147483647 := by omega
    have ed : (p : Int).tdiv 2000 = ((p / 2000 : Nat) : Int) := by
      rw [Int.tdiv_eq_ediv_of_nonneg (by omega)]; rfl
    have ed2 : w32 ((p / 2000 : Nat) : Int) = ((p / 2000 : Nat) : Int) := w32_id (by omega) (by omega)
    have ed3 : w32 (2000 * ((p / 2000 : Nat) : Int)) = ((2000 * (p / 2000) : Nat) : Int) := w32mul (by clear ed2; omega)
    have ed4 : w32 (((2000 * (p / 2000) : Nat) : Int) + (z : Int)) = ((2000 * (p / 2000) + z : Nat) : Int) := w32add b2
    simp only [c_142, b_142, ↓zwq, zpq, zgq, zhq, eq_sto, eq_kill, eq_zSto, eq_mset, eq_zGd, zsq, Int.reduceToNat, List.length_cons, List.length_nil, Nat.reduceAdd, Nat.reduceLT, Nat.reduceEqDiff, Int.reduceLT, Int.reduceLE, Int.reduceEq, Int.reduceNe, Int.reduceNeg, Int.reduceAdd, Int.reduceSub, Int.reduceMul, if_true, if_false, ite_true, ite_false, reduceIte, true_and, and_true, true_implies, forall_const, decide_eq_true_eq, decide_eq_false_iff_not, Bool.not_eq_true', Bool.not_eq_false', Bool.and_eq_true, Bool.or_eq_true, Bool.and_eq_false_iff, Bool.or_eq_false_iff, Bool.not_eq_true, Bool.not_eq_false, Bool.false_eq_true, Bool.true_eq_false, false_implies, implies_true, b2i_ne, b2i_eq, zB_b2i, not_true_eq_false, not_false_eq_true, List.drop_zero, List.drop_succ_cons, zIn_iff, zI8_iff, or_false, false_or, or_true, true_or, and_false, false_and, Decidable.not_not, laq hL, g', ed, ed2, ed3, ed4, hin, Int.toNat_natCast, h93, ne_eq]
    refine stp _ ?_
    simp only [↓zwq, zpq, zgq, zhq, eq_sto, eq_kill, eq_zSto, eq_mset, eq_zGd, zsq, Int.reduceToNat, List.length_cons, List.length_nil, Nat.reduceAdd, Nat.reduceLT, Nat.reduceEqDiff, Int.reduceLT, Int.reduceLE, Int.reduceEq, Int.reduceNe, Int.reduceNeg, Int.reduceAdd, Int.reduceSub, Int.reduceMul, if_true, if_false, ite_true, ite_false, reduceIte, true_and, and_true, true_implies, forall_const, decide_eq_true_eq, decide_eq_false_iff_not, Bool.not_eq_true', Bool.not_eq_false', Bool.and_eq_true, Bool.or_eq_true, Bool.and_eq_false_iff, Bool.or_eq_false_iff, Bool.not_eq_true, Bool.not_eq_false, Bool.false_eq_true, Bool.true_eq_false, false_implies, implies_true, b2i_ne, b2i_eq, zB_b2i, not_true_eq_false, not_false_eq_true, List.drop_zero, List.drop_succ_cons, zIn_iff, zI8_iff, or_false, false_or, or_true, true_or, and_false, false_and, Decidable.not_not]
    exact hR
theorem s143 (d : Nat) {σ : Mem} {p q : Nat} {v w : List Int} (hL : Lay σ) (hb : ∀ k, -128 ≤ σ 92 k ∧ σ 92 k < 128) (hv : NA σ p v) (hw : NA σ q w) (R T : zK) : R (b2i (decide (v = w))) σ → zCallD (d + 4) 143 [90, (p : Int), (q : Int)] σ R T := by
  intro hR
  simp only [c_143, b_143, ↓zwq, zpq, zgq, zhq, eq_sto, eq_kill, eq_zSto, eq_mset, eq_zGd, zsq, Int.reduceToNat, List.length_cons, List.length_nil, Nat.reduceAdd, Nat.reduceLT, Nat.reduceEqDiff, Int.reduceLT, Int.reduceLE, Int.reduceEq, Int.reduceNe, Int.reduceNeg, Int.reduceAdd, Int.reduceSub, Int.reduceMul, if_true, if_false, ite_true, ite_false, reduceIte, true_and, and_true, true_implies, forall_const, decide_eq_true_eq, decide_eq_false_iff_not, Bool.not_eq_true', Bool.not_eq_false', Bool.and_eq_true, Bool.or_eq_true, Bool.and_eq_false_iff, Bool.or_eq_false_iff, Bool.not_eq_true, Bool.not_eq_false, Bool.false_eq_true, Bool.true_eq_false, false_implies, implies_true, b2i_ne, b2i_eq, zB_b2i, not_true_eq_false, not_false_eq_true, List.drop_zero, List.drop_succ_cons, zIn_iff, zI8_iff, or_false, false_or, or_true, true_or, and_false, false_and, Decidable.not_not, laq hL]
  refine s142 d hL hb hv _ _ ?_
  refine s142 d hL hb hw _ _ ?_
  have hvl := hv
  have hwl := hw
  obtain ⟨ev, v1, v2, v3, v4, v5, v6⟩ := hv
  obtain ⟨ew, w1, w2, w3, w4, w5, w6⟩ := hw
  have l1 := endAt_le v1
  have l2 := endAt_le w1
  have zb : ∀ b : Bool, zB (b2i b) = True := zB_b2i
  have cl : decide ((v.length : Int) = (w.length : Int)) = decide (v.length = w.length) := by
    by_cases z : v.length = w.length
    · rw [decide_eq_true z, decide_eq_true (by rw [z])]
    · rw [decide_eq_false z]; exact decide_eq_false (fun y => z (Int.ofNat.inj y))
  simp only [↓zwq, zpq, zgq, zhq, eq_sto, eq_kill, eq_zSto, eq_mset, eq_zGd, zsq, Int.reduceToNat, List.length_cons, List.length_nil, Nat.reduceAdd, Nat.reduceLT, Nat.reduceEqDiff, Int.reduceLT, Int.reduceLE, Int.reduceEq, Int.reduceNe, Int.reduceNeg, Int.reduceAdd, Int.reduceSub, Int.reduceMul, if_true, if_false, ite_true, ite_false, reduceIte, true_and, and_true, true_implies, forall_const, decide_eq_true_eq, decide_eq_false_iff_not, Bool.not_eq_true', Bool.not_eq_false', Bool.and_eq_true, Bool.or_eq_true, Bool.and_eq_false_iff, Bool.or_eq_false_iff, Bool.not_eq_true, Bool.not_eq_false, Bool.false_eq_true, Bool.true_eq_false, false_implies, implies_true, b2i_ne, b2i_eq, zB_b2i, not_true_eq_false, not_false_eq_true, List.drop_zero, List.drop_succ_cons, zIn_iff, zI8_iff, or_false, false_or, or_true, true_or, and_false, false_and, Decidable.not_not, cl]
  refine lpW (fun m en s => ∃ (i : Nat) (r : Bool), m = v.length - i ∧ i ≤ v.length ∧ s = σ ∧ (r = true ↔ (v.length = w.length ∧ ∀ k, k < i → σ 92 (p + k) = σ 92 (q + k))) ∧ en = [(3, 90), (1, (p : Int)), (1, (q : Int)), (1, (v.length : Int)), (1, b2i r), (1, (i : Int))]) ?_ v.length _ _ ⟨0, decide (v.length = w.length), rfl, Nat.zero_le _, rfl, ⟨fun z => ⟨of_decide_eq_true z, fun k hk => by omega⟩, fun z => decide_eq_true z.1⟩, rfl⟩
  rintro m en s ⟨i, r, rfl, hi, rfl, hr, rfl⟩
  have nmv : Nam s 92 p v := fun k hk => v4 k hk
  have nmw : Nam s 92 q w := fun k hk => w4 k hk
  cases r with
  | false =>
    have hne : v ≠ w := fun z => by
      subst z
      have : ∀ k, k < i → s 92 (p + k) = s 92 (q + k) := fun k hk => by rw [v4 k (by omega), w4 k (by omega)]
      exact absurd (hr.mpr ⟨rfl, this⟩) (by decide)
    rw [decide_eq_false hne] at hR
    by_cases g : (i : Int) < (v.length : Int)
    · simp only [↓zwq, zpq, zgq, zhq, eq_sto, eq_kill, eq_zSto, eq_mset, eq_zGd, zsq, Int.reduceToNat, List.length_cons, List.length_nil, Nat.reduceAdd, Nat.reduceLT, Nat.reduceEqDiff, Int.reduceLT, Int.reduceLE, Int.reduceEq, Int.reduceNe, Int.reduceNeg, Int.reduceAdd, Int.reduceSub, Int.reduceMul, if_true, if_false, ite_true, ite_false, reduceIte, true_and, and_true, true_implies, forall_const, decide_eq_true_eq, decide_eq_false_iff_not, Bool.not_eq_true', Bool.not_eq_false', Bool.and_eq_true, Bool.or_eq_true, Bool.and_eq_false_iff, Bool.or_eq_false_iff, Bool.not_eq_true, Bool.not_eq_false, Bool.false_eq_true, Bool.true_eq_false, false_implies, implies_true, b2i_ne, b2i_eq, zB_b2i, not_true_eq_false, not_false_eq_true, List.drop_zero, List.drop_succ_cons, zIn_iff, zI8_iff, or_false, false_or, or_true, true_or, and_false, false_and, Decidable.not_not, g, zb]
      exact hR
    · simp only [↓zwq, zpq, zgq, zhq, eq_sto, eq_kill, eq_zSto, eq_mset, eq_zGd, zsq, Int.reduceToNat, List.length_cons, List.length_nil, Nat.reduceAdd, Nat.reduceLT, Nat.reduceEqDiff, Int.reduceLT, Int.reduceLE, Int.reduceEq, Int.reduceNe, Int.reduceNeg, Int.reduceAdd, Int.reduceSub, Int.reduceMul, if_true, if_false, ite_true, ite_false, reduceIte, true_and, and_true, true_implies, forall_const, decide_eq_true_eq, decide_eq_false_iff_not, Bool.not_eq_true', Bool.not_eq_false', Bool.and_eq_true, Bool.or_eq_true, Bool.and_eq_false_iff, Bool.or_eq_false_iff, Bool.not_eq_true, Bool.not_eq_false, Bool.false_eq_true, Bool.true_eq_false, false_implies, implies_true, b2i_ne, b2i_eq, zB_b2i, not_true_eq_false, not_false_eq_true, List.drop_zero, List.drop_succ_cons, zIn_iff, zI8_iff, or_false, false_or, or_true, true_or, and_false, false_and, Decidable.not_not, g, zb]
      exact hR
  | true =>
    obtain ⟨hl, hk⟩ := hr.mp rfl
    by_cases g : i < v.length
    · have g' : ((i : Int) < (v.length : Int)) = True := eq_true (by omega)
      have i1 : (0 : Int) ≤ ((p + i : Nat) : Int) ∧ ((p + i : Nat) : Int) < ((8011 : Nat) : Int) := by omega
      have i2 : (0 : Int) ≤ ((q + i : Nat) : Int) ∧ ((q + i : Nat) : Int) < ((8011 : Nat) : Int) := by omega
      have b1 : p + i < 2147483647 := by omega
      have b2 : q + i < 2147483647 := by omega
      have hm : v.length - (i + 1) < v.length - i := by omega
      have ib : i < 2147483647 := by omega
      have e1 : w32 ((p : Int) + (i : Int)) = ((p + i : Nat) : Int) := w32add b1
      have e2 : w32 ((q : Int) + (i : Int)) = ((q + i : Nat) : Int) := w32add b2
      simp only [↓zwq, zpq, zgq, zhq, eq_sto, eq_kill, eq_zSto, eq_mset, eq_zGd, zsq, Int.reduceToNat, List.length_cons, List.length_nil, Nat.reduceAdd, Nat.reduceLT, Nat.reduceEqDiff, Int.reduceLT, Int.reduceLE, Int.reduceEq, Int.reduceNe, Int.reduceNeg, Int.reduceAdd, Int.reduceSub, Int.reduceMul, if_true, if_false, ite_true, ite_false, reduceIte, true_and, and_true, true_implies, forall_const, decide_eq_true_eq, decide_eq_false_iff_not, Bool.not_eq_true', Bool.not_eq_false', Bool.and_eq_true, Bool.or_eq_true, Bool.and_eq_false_iff, Bool.or_eq_false_iff, Bool.not_eq_true, Bool.not_eq_false, Bool.false_eq_true, Bool.true_eq_false, false_implies, implies_true, b2i_ne, b2i_eq, zB_b2i, not_true_eq_false, not_false_eq_true, List.drop_zero, List.drop_succ_cons, zIn_iff, zI8_iff, or_false, false_or, or_true, true_or, and_false, false_and, Decidable.not_not, g', laq hL, e1, e2, i1, i2, Int.toNat_natCast, w32s ib]
      refine ⟨_, hm, i + 1, decide (s 92 (p + i) = s 92 (q + i)), rfl, g, ?_, rfl⟩
      constructor
      · intro z
        refine ⟨hl, fun k hk' => ?_⟩
        by_cases e : k = i
        · rw [e]; exact of_decide_eq_true z
        · exact hk k (Nat.lt_of_le_of_ne (Nat.le_of_lt_succ hk') e)
      · exact fun z => decide_eq_true (z.2 i (Nat.lt_succ_self _))
    · have g' : ((i : Int) < (v.length : Int)) = False := eq_false (by omega)
      have ei : i = v.length := by omega
      have he : v = w := (Nam.eq nmv nmw hl).mp (fun k hk' => hk k (by rw [ei, hl]; exact hk'))
      rw [decide_eq_true he] at hR
      simp only [↓zwq, zpq, zgq, zhq, eq_sto, eq_kill, eq_zSto, eq_mset, eq_zGd, zsq, Int.reduceToNat, List.length_cons, List.length_nil, Nat.reduceAdd, Nat.reduceLT, Nat.reduceEqDiff, Int.reduceLT, Int.reduceLE, Int.reduceEq, Int.reduceNe, Int.reduceNeg, Int.reduceAdd, Int.reduceSub, Int.reduceMul, if_true, if_false, ite_true, ite_false, reduceIte, true_and, and_true, true_implies, forall_const, decide_eq_true_eq, decide_eq_false_iff_not, Bool.not_eq_true', Bool.not_eq_false', Bool.and_eq_true, Bool.or_eq_true, Bool.and_eq_false_iff, Bool.or_eq_false_iff, Bool.not_eq_true, Bool.not_eq_false, Bool.false_eq_true, Bool.true_eq_false, false_implies, implies_true, b2i_ne, b2i_eq, zB_b2i, not_true_eq_false, not_false_eq_true, List.drop_zero, List.drop_succ_cons, zIn_iff, zI8_iff, or_false, false_or, or_true, true_or, and_false, false_and, Decidable.not_not, g', zb]
      exact hR
