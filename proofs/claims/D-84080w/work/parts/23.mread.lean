/-! LazyFormsModel reads a text -/
theorem w32num {v c : Int} (h1 : 0 ≤ v) (h2 : v ≤ 100000000) (h3 : 48 ≤ c) (h4 : c ≤ 57) : w32 (w32 (w32 (10 * v) + c) - 48) = 10 * v + (c - 48) := by
  have e1 : w32 (10 * v) = 10 * v := w32_id (by omega) (by omega)
  rw [e1]
  have e2 : w32 (10 * v + c) = 10 * v + c := w32_id (by omega) (by omega)
  rw [e2]
  have e3 : w32 (10 * v + c - 48) = 10 * v + c - 48 := w32_id (by omega) (by omega)
  rw [e3]; omega
theorem pow8 {m : Nat} (h : m ≤ 8) : (10 : Int) ^ m ≤ 100000000 := by
  have : (10 : Nat) ^ m ≤ 10 ^ 8 := Nat.pow_le_pow_right (by decide) h
  have e : ((10 ^ m : Nat) : Int) = (10 : Int) ^ m := by simp
  rw [← e]; omega
theorem dEnd_same {tp : Nat → Int} {n p q : Nat} (h1 : p ≤ q) (h2 : q ≤ dEnd tp n p) : dEnd tp n q = dEnd tp n p := by
  rw [dEnd.eq_1 tp n p] at h2 ⊢
  split at h2
  · next g =>
    have hn : p < n := chr_lt (by intro e; rw [e] at g; exact absurd g (by decide))
    rw [dif_pos g]
    by_cases e : q = p
    · rw [e, dEnd.eq_1 tp n p, dif_pos g]
    · exact dEnd_same (by omega) h2
  · next g =>
    rw [dif_neg g, show q = p by omega, dEnd, dif_neg g]
termination_by n - p
theorem MT.arr {tp : Nat → Int} {n A : Nat} {σ : Mem} (h : MT tp n A σ) {o k : Nat} {v : Int} (h1 : layO o = false) (h2 : o ≠ 92) (h3 : o ≠ 93) (h4 : o ≠ 90) : MT tp n A (mset σ o k v) := by
  obtain ⟨a, b, c, d, e, f, g⟩ := h
  refine ⟨a.arr h1, ?_, c, ?_, e, fun i hi => ?_, g⟩
  · rw [eq_mset, if_neg (Ne.symm h4)]; exact b
  · rw [eq_mset, if_neg (Ne.symm h3)]; exact d
  · rw [eq_mset, if_neg (Ne.symm h2)]; exact f i hi
theorem s141 (d : Nat) {tp : Nat → Int} {n A p K : Nat} {σ : Mem} (h : MT tp n A σ) (hp : p < n) (hc1 : isS (chr tp n p) = false) (hc2 : isG (chr tp n p) = false) (hc : isD (chr tp n p) = true) (hK : σ 90 5 = (K : Int)) (hK2 : K < 2010) (R T : zK)
    (hR : ∀ v, ((tok tp n p).1 = 4 → v = numV tp n p (tok tp n p).2) → R ((2000 * A + (p + (tok tp n p).2) : Nat) : Int) (mset (mset σ 95 K v) 94 K (mKd (tok tp n p).1))) : zCallD (d + 2) 141 [90, ((2000 * A + p : Nat) : Int)] σ R T := by
  have ⟨hL, h1, h2, h3, h4, h5, h6⟩ := h
  have ht : tok tp n p = (if dEnd tp n p - p ≤ 9 ∧ (chr tp n p ≠ 48 ∨ dEnd tp n p - p = 1) then 4 else 1, dEnd tp n p - p) := by
    unfold tok
    rw [if_neg (by omega), if_neg (by rw [hc1, hc2]; decide), if_pos hc]
  have hw := dEnd_le tp n p
  have hw2 := hw.2 (Nat.le_of_lt hp)
  simp only [c_141, b_141, ↓zwq, zpq, zgq, zhq, eq_sto, eq_kill, eq_zSto, eq_mset, eq_zGd, zsq, Int.reduceToNat, List.length_cons, List.length_nil, Nat.reduceAdd, Nat.reduceLT, Nat.reduceEqDiff, Int.reduceLT, Int.reduceLE, Int.reduceEq, Int.reduceNe, Int.reduceNeg, Int.reduceAdd, Int.reduceSub, Int.reduceMul, if_true, if_false, ite_true, ite_false, reduceIte, true_and, and_true, true_implies, forall_const, decide_eq_true_eq, decide_eq_false_iff_not, Bool.not_eq_true', Bool.not_eq_false', Bool.and_eq_true, Bool.or_eq_true, Bool.and_eq_false_iff, Bool.or_eq_false_iff, Bool.not_eq_true, Bool.not_eq_false, Bool.false_eq_true, Bool.true_eq_false, false_implies, implies_true, b2i_ne, b2i_eq, zB_b2i, not_true_eq_false, not_false_eq_true, List.drop_zero, List.drop_succ_cons, zIn_iff, zI8_iff, laq hL]
  refine lpW (fun m e s => ∃ q : Nat, m = n - q ∧ p ≤ q ∧ q ≤ dEnd tp n p ∧ s = σ ∧ e = [(3, 90), (1, ((2000 * A + p : Nat) : Int)), (1, ((2000 * A + q : Nat) : Int)), (1, numV tp n p (min (q - p) 9))]) ?_ (n - p) _ _ ⟨p, rfl, Nat.le_refl _, hw.1, rfl, by rw [Nat.sub_self]; rfl⟩
  rintro m e s ⟨q, rfl, hpq, hq, rfl, rfl⟩
  have hqn : q ≤ n := by omega
  have hb : 2000 * A + q < 2147483640 := by omega
  have e1 : w32 (((2000 * A + q : Nat) : Int) + 1) = ((2000 * A + (q + 1) : Nat) : Int) := w32b hb
  have e2 : w32 (((2000 * A + q : Nat) : Int) - ((2000 * A + p : Nat) : Int)) = ((q - p : Nat) : Int) := w32bsub hpq hb
  have hs := dEnd_same hpq hq
  by_cases g : isD (chr tp n q) = true
  · have hlt : q < dEnd tp n p := by rw [← hs]; exact dEnd_lt g
    have hn : q < n := Nat.lt_of_lt_of_le hlt hw2
    have hm : n - (q + 1) < n - q := Nat.sub_lt_sub_left hn (Nat.lt_succ_self _)
    by_cases g9 : q - p < 9
    · have g9' : (((q - p : Nat) : Int) < 9) = True := eq_true (by clear e1 e2; omega)
      have em : min (q - p) 9 = q - p := Nat.min_eq_left (by clear e1 e2; omega)
      have em2 : min (q + 1 - p) 9 = q - p + 1 := by clear e1 e2; rw [Nat.min_eq_left (by omega)]; omega
      have bd := numV_bd (tp := tp) (n := n) (p := p) (m := q - p) (fun i hi => dEnd_all (p := p) (by omega) (by clear e1 e2; omega))
      have bd2 := pow8 (m := q - p) (by clear e1 e2; omega)
      have bd3 := isD_bd g
      have ew := w32num bd.1 (by clear e1 e2; omega) bd3.1 bd3.2
      simp only [↓zwq, zpq, zgq, zhq, eq_sto, eq_kill, eq_zSto, eq_mset, eq_zGd, zsq, Int.reduceToNat, List.length_cons, List.length_nil, Nat.reduceAdd, Nat.reduceLT, Nat.reduceEqDiff, Int.reduceLT, Int.reduceLE, Int.reduceEq, Int.reduceNe, Int.reduceNeg, Int.reduceAdd, Int.reduceSub, Int.reduceMul, if_true, if_false, ite_true, ite_false, reduceIte, true_and, and_true, true_implies, forall_const, decide_eq_true_eq, decide_eq_false_iff_not, Bool.not_eq_true', Bool.not_eq_false', Bool.and_eq_true, Bool.or_eq_true, Bool.and_eq_false_iff, Bool.or_eq_false_iff, Bool.not_eq_true, Bool.not_eq_false, Bool.false_eq_true, Bool.true_eq_false, false_implies, implies_true, b2i_ne, b2i_eq, zB_b2i, not_true_eq_false, not_false_eq_true, List.drop_zero, List.drop_succ_cons, zIn_iff, zI8_iff, laq hL, s129 d h, s133, chm_D, g, g9', e1, e2, em, chm_pos hn, ew]
      refine ⟨_, hm, q + 1, rfl, Nat.le_succ_of_le hpq, hlt, ?_⟩
      rw [em2]
      show _ = [_, _, _, (1, 10 * numV tp n p (q - p) + (chr tp n (p + (q - p)) - 48))]
      rw [Nat.add_sub_cancel' hpq]
    · have g9' : (((q - p : Nat) : Int) < 9) = False := eq_false (by clear e1 e2; omega)
      have em : min (q - p) 9 = min (q + 1 - p) 9 := by clear e1 e2; rw [Nat.min_eq_right (by omega), Nat.min_eq_right (by omega)]
      simp only [↓zwq, zpq, zgq, zhq, eq_sto, eq_kill, eq_zSto, eq_mset, eq_zGd, zsq, Int.reduceToNat, List.length_cons, List.length_nil, Nat.reduceAdd, Nat.reduceLT, Nat.reduceEqDiff, Int.reduceLT, Int.reduceLE, Int.reduceEq, Int.reduceNe, Int.reduceNeg, Int.reduceAdd, Int.reduceSub, Int.reduceMul, if_true, if_false, ite_true, ite_false, reduceIte, true_and, and_true, true_implies, forall_const, decide_eq_true_eq, decide_eq_false_iff_not, Bool.not_eq_true', Bool.not_eq_false', Bool.and_eq_true, Bool.or_eq_true, Bool.and_eq_false_iff, Bool.or_eq_false_iff, Bool.not_eq_true, Bool.not_eq_false, Bool.false_eq_true, Bool.true_eq_false, false_implies, implies_true, b2i_ne, b2i_eq, zB_b2i, not_true_eq_false, not_false_eq_true, List.drop_zero, List.drop_succ_cons, zIn_iff, zI8_iff, laq hL, s129 d h, s133, chm_D, g, g9', e1, e2, em]
      exact ⟨_, hm, q + 1, rfl, Nat.le_succ_of_le hpq, hlt, rfl⟩
  · have hq2 : dEnd tp n p = q := by rw [← hs, dEnd, dif_neg g]
    rw [hq2] at ht
    rw [ht] at hR
    simp only [Bool.not_eq_true] at g
    have z9 : (9 < ((q - p : Nat) : Int)) = (9 < q - p) := by clear e1 e2; exact propext (by omega)
    have z1 : (1 < ((q - p : Nat) : Int)) = (1 < q - p) := by clear e1 e2; exact propext (by omega)
    have hin : (0 : Int) ≤ (K : Int) ∧ (K : Int) < ((2010 : Nat) : Int) := by clear e1 e2; omega
    have hpp : p < q := by rw [← hq2]; exact dEnd_lt hc
    have i48 := chm_is tp n p (c := 48) (by decide)
    have ee : ((2000 * A + (p + (q - p)) : Nat) : Int) = ((2000 * A + q : Nat) : Int) := by rw [Nat.add_sub_cancel' hpq]
    dsimp only at hR
    rw [ee] at hR
    by_cases y1 : q - p ≤ 9
    · have em : min (q - p) 9 = q - p := Nat.min_eq_left y1
      have y1' : (9 < q - p) = False := eq_false (Nat.not_lt.mpr y1)
      rw [em]
      by_cases y2 : chr tp n p = 48
      · by_cases y3 : q - p = 1
        · have y3' : (1 < q - p) = False := eq_false (by rw [y3]; decide)
          rw [if_pos ⟨y1, Or.inr y3⟩] at hR
          simp only [↓zwq, zpq, zgq, zhq, eq_sto, eq_kill, eq_zSto, eq_mset, eq_zGd, zsq, Int.reduceToNat, List.length_cons, List.length_nil, Nat.reduceAdd, Nat.reduceLT, Nat.reduceEqDiff, Int.reduceLT, Int.reduceLE, Int.reduceEq, Int.reduceNe, Int.reduceNeg, Int.reduceAdd, Int.reduceSub, Int.reduceMul, if_true, if_false, ite_true, ite_false, reduceIte, true_and, and_true, true_implies, forall_const, decide_eq_true_eq, decide_eq_false_iff_not, Bool.not_eq_true', Bool.not_eq_false', Bool.and_eq_true, Bool.or_eq_true, Bool.and_eq_false_iff, Bool.or_eq_false_iff, Bool.not_eq_true, Bool.not_eq_false, Bool.false_eq_true, Bool.true_eq_false, false_implies, implies_true, b2i_ne, b2i_eq, zB_b2i, not_true_eq_false, not_false_eq_true, List.drop_zero, List.drop_succ_cons, zIn_iff, zI8_iff, laq hL, s129 d h, s133, chm_D, g, e1, e2, z9, z1, y1', y3', hK, hin, Int.toNat_natCast]
          exact hR _ (fun _ => rfl)
        · have y3' : (1 < q - p) = True := eq_true (by clear e1 e2; omega)
          rw [if_neg (fun z => z.2.elim (fun z => z y2) y3)] at hR
          simp only [↓zwq, zpq, zgq, zhq, eq_sto, eq_kill, eq_zSto, eq_mset, eq_zGd, zsq, Int.reduceToNat, List.length_cons, List.length_nil, Nat.reduceAdd, Nat.reduceLT, Nat.reduceEqDiff, Int.reduceLT, Int.reduceLE, Int.reduceEq, Int.reduceNe, Int.reduceNeg, Int.reduceAdd, Int.reduceSub, Int.reduceMul, if_true, if_false, ite_true, ite_false, reduceIte, true_and, and_true, true_implies, forall_const, decide_eq_true_eq, decide_eq_false_iff_not, Bool.not_eq_true', Bool.not_eq_false', Bool.and_eq_true, Bool.or_eq_true, Bool.and_eq_false_iff, Bool.or_eq_false_iff, Bool.not_eq_true, Bool.not_eq_false, Bool.false_eq_true, Bool.true_eq_false, false_implies, implies_true, b2i_ne, b2i_eq, zB_b2i, not_true_eq_false, not_false_eq_true, List.drop_zero, List.drop_succ_cons, zIn_iff, zI8_iff, laq hL, s129 d h, s133, chm_D, g, e1, e2, z9, z1, y1', y3', s129 d (h.arr (o := 95) (k := K) (v := numV tp n p (q - p)) (by decide) (by decide) (by decide) (by decide)), i48, y2, hK, hin, Int.toNat_natCast]
          exact hR _ (fun _ => rfl)
      · rw [if_pos ⟨y1, Or.inl y2⟩] at hR
        by_cases y3 : 1 < q - p
        · simp only [↓zwq, zpq, zgq, zhq, eq_sto, eq_kill, eq_zSto, eq_mset, eq_zGd, zsq, Int.reduceToNat, List.length_cons, List.length_nil, Nat.reduceAdd, Nat.reduceLT, Nat.reduceEqDiff, Int.reduceLT, Int.reduceLE, Int.reduceEq, Int.reduceNe, Int.reduceNeg, Int.reduceAdd, Int.reduceSub, Int.reduceMul, if_true, if_false, ite_true, ite_false, reduceIte, true_and, and_true, true_implies, forall_const, decide_eq_true_eq, decide_eq_false_iff_not, Bool.not_eq_true', Bool.not_eq_false', Bool.and_eq_true, Bool.or_eq_true, Bool.and_eq_false_iff, Bool.or_eq_false_iff, Bool.not_eq_true, Bool.not_eq_false, Bool.false_eq_true, Bool.true_eq_false, false_implies, implies_true, b2i_ne, b2i_eq, zB_b2i, not_true_eq_false, not_false_eq_true, List.drop_zero, List.drop_succ_cons, zIn_iff, zI8_iff, laq hL, s129 d h, s133, chm_D, g, e1, e2, z9, z1, y1', y3, s129 d (h.arr (o := 95) (k := K) (v := numV tp n p (q - p)) (by decide) (by decide) (by decide) (by decide)), i48, y2, hK, hin, Int.toNat_natCast]
          exact hR _ (fun _ => rfl)
        · simp only [↓zwq, zpq, zgq, zhq, eq_sto, eq_kill, eq_zSto, eq_mset, eq_zGd, zsq, Int.reduceToNat, List.length_cons, List.length_nil, Nat.reduceAdd, Nat.reduceLT, Nat.reduceEqDiff, Int.reduceLT, Int.reduceLE, Int.reduceEq, Int.reduceNe, Int.reduceNeg, Int.reduceAdd, Int.reduceSub, Int.reduceMul, if_true, if_false, ite_true, ite_false, reduceIte, true_and, and_true, true_implies, forall_const, decide_eq_true_eq, decide_eq_false_iff_not, Bool.not_eq_true', Bool.not_eq_false', Bool.and_eq_true, Bool.or_eq_true, Bool.and_eq_false_iff, Bool.or_eq_false_iff, Bool.not_eq_true, Bool.not_eq_false, Bool.false_eq_true, Bool.true_eq_false, false_implies, implies_true, b2i_ne, b2i_eq, zB_b2i, not_true_eq_false, not_false_eq_true, List.drop_zero, List.drop_succ_cons, zIn_iff, zI8_iff, laq hL, s129 d h, s133, chm_D, g, e1, e2, z9, z1, y1', y3, hK, hin, Int.toNat_natCast]
          exact hR _ (fun _ => rfl)
    · rw [if_neg (fun z => y1 z.1)] at hR
      have y1' : (9 < q - p) = True := eq_true (Nat.not_le.mp y1)
      simp only [↓zwq, zpq, zgq, zhq, eq_sto, eq_kill, eq_zSto, eq_mset, eq_zGd, zsq, Int.reduceToNat, List.length_cons, List.length_nil, Nat.reduceAdd, Nat.reduceLT, Nat.reduceEqDiff, Int.reduceLT, Int.reduceLE, Int.reduceEq, Int.reduceNe, Int.reduceNeg, Int.reduceAdd, Int.reduceSub, Int.reduceMul, if_true, if_false, ite_true, ite_false, reduceIte, true_and, and_true, true_implies, forall_const, decide_eq_true_eq, decide_eq_false_iff_not, Bool.not_eq_true', Bool.not_eq_false', Bool.and_eq_true, Bool.or_eq_true, Bool.and_eq_false_iff, Bool.or_eq_false_iff, Bool.not_eq_true, Bool.not_eq_false, Bool.false_eq_true, Bool.true_eq_false, false_implies, implies_true, b2i_ne, b2i_eq, zB_b2i, not_true_eq_false, not_false_eq_true, List.drop_zero, List.drop_succ_cons, zIn_iff, zI8_iff, laq hL, s129 d h, s133, chm_D, g, e1, e2, z9, z1, y1', hK, hin, Int.toNat_natCast]
      exact hR _ (fun z => absurd z (by decide))
def sv (c d : Int) : Int := if c = 45 ∧ d = 62 then 256 else if c = 60 ∧ d = 61 then 257 else if c = 61 ∧ d = 61 then 258 else c
theorem sgn_m (c d : Int) (hc : c < 256) : (255 < sv c d → (sgn c d).2 = 2 ∧ mKd (sgn c d).1 = 5 ∧ 9 ≤ (sgn c d).1 ∧ mVl (sgn c d).1 = sv c d) ∧ (¬ 255 < sv c d → (sgn c d).2 = 1 ∧ (((((((((((((¬ c = 40 ∧ ¬ c = 41) ∧ ¬ c = 123) ∧ ¬ c = 125) ∧ ¬ c = 59) ∧ ¬ c = 61) ∧ ¬ c = 92) ∧ ¬ c = 43) ∧ ¬ c = 45) ∧ ¬ c = 42) ∧ ¬ c = 47) ∧ ¬ c = 60) ∧ ¬ c = 95) → (sgn c d).1 = 1) ∧ (¬ ((((((((((((¬ c = 40 ∧ ¬ c = 41) ∧ ¬ c = 123) ∧ ¬ c = 125) ∧ ¬ c = 59) ∧ ¬ c = 61) ∧ ¬ c = 92) ∧ ¬ c = 43) ∧ ¬ c = 45) ∧ ¬ c = 42) ∧ ¬ c = 47) ∧ ¬ c = 60) ∧ ¬ c = 95) → mKd (sgn c d).1 = 5 ∧ 9 ≤ (sgn c d).1 ∧ mVl (sgn c d).1 = sv c d)) := by
  by_cases h45 : c = 45
  · subst h45
    by_cases hd : d = 62
    · subst hd; decide
    · simp [sv, sgn, hd, mKd, mVl]
  by_cases h60 : c = 60
  · subst h60
    by_cases hd : d = 61
    · subst hd; decide
    · simp [sv, sgn, hd, mKd, mVl]
  by_cases h61 : c = 61
  · subst h61
    by_cases hd : d = 61
    · subst hd; decide
    · simp [sv, sgn, hd, mKd, mVl]
  have e : sv c d = c := by simp [sv, h45, h60, h61]
  rw [e]
  refine ⟨fun z => by omega, fun _ => ?_⟩
  by_cases h40 : c = 40
  · subst h40; simp [sgn, mKd, mVl]
  by_cases h41 : c = 41
  · subst h41; simp [sgn, mKd, mVl]
  by_cases h123 : c = 123
  · subst h123; simp [sgn, mKd, mVl]
  by_cases h125 : c = 125
  · subst h125; simp [sgn, mKd, mVl]
  by_cases h59 : c = 59
  · subst h59; simp [sgn, mKd, mVl]
  by_cases h92 : c = 92
  · subst h92; simp [sgn, mKd, mVl]
  by_cases h43 : c = 43
  · subst h43; simp [sgn, mKd, mVl]
  by_cases h42 : c = 42
  · subst h42; simp [sgn, mKd, mVl]
  by_cases h47 : c = 47
  · subst h47; simp [sgn, mKd, mVl]
  by_cases h95 : c = 95
  · subst h95; simp [sgn, mKd, mVl]
  have es : sgn c d = (1, 1) := by simp [sgn, h40, h41, h123, h125, h59, h92, h43, h42, h47, h95, h45, h60, h61]
  rw [es]
  refine ⟨rfl, fun _ => rfl, fun z => absurd ⟨⟨⟨⟨⟨⟨⟨⟨⟨⟨⟨⟨h40, h41⟩, h123⟩, h125⟩, h59⟩, h61⟩, h92⟩, h43⟩, h45⟩, h42⟩, h47⟩, h60⟩, h95⟩ z⟩
/-- one token of the rows is new -/
def P137 (tp : Nat → Int) (n A p K : Nat) (σ τ : Mem) : Prop := Fr (wAt K) σ τ ∧ τ 94 K = (mKd (tok tp n p).1 : Int) ∧ (2 ≤ (tok tp n p).1 → τ 95 K = mTv tp n A p)
theorem sgn_facts (c d : Int) (h : (sgn c d).1 ≠ 1) : 9 ≤ (sgn c d).1 ∧ (sgn c d).1 ≤ 24 := (show ∀ x ∈ sgnL, x.1 ≠ 1 → 9 ≤ x.1 ∧ x.1 ≤ 24 by decide) _ (sgn_mem c d) h
theorem Fr.at0 {σ : Mem} {K : Nat} {v : Int} {o : Nat} (ho : o = 94 ∨ o = 95) {W : Nat → Nat → Bool} (hW : W = wAt K) {τ : Mem} (h : Fr W σ τ) : Fr W σ (mset τ o K v) := by
  subst hW
  exact h.set (by rcases ho with rfl | rfl <;> simp [wAt])
theorem s137 (d : Nat) {tp : Nat → Int} {n A p K : Nat} {σ : Mem} (h : MT tp n A σ) (hp : p ≤ n) (hK : σ 90 5 = (K : Int)) (hK2 : K < 2010) (R T : zK)
    (hR : ∀ τ, P137 tp n A p K σ τ → R ((2000 * A + (p + (tok tp n p).2) : Nat) : Int) τ) : zCallD (d + 4) 137 [90, ((2000 * A + p : Nat) : Int)] σ R T := by
  have ⟨hL, h1, h2, h3, h4, h5, h6⟩ := h
  have hin : (0 : Int) ≤ (K : Int) ∧ (K : Int) < ((2010 : Nat) : Int) := by omega
  have hb : 2000 * A + p < 2147483640 := by omega
  have hz : MT tp n A (mset σ 95 K 0) := h.arr (by decide) (by decide) (by decide) (by decide)
  by_cases hpn : p < n
  · have l0 : (chm tp n p < 0) = False := by rw [chm_lt0]; exact eq_false (fun z => z hpn)
    by_cases hw : isS (chr tp n p) = true ∨ isG (chr tp n p) = true
    · have ht : tok tp n p = (if 12 < wEnd tp n p - p then 1 else if isG (chr tp n p) = true then 3 else kwd tp n p (wEnd tp n p - p), wEnd tp n p - p) := by
        unfold tok
        rw [if_neg (by omega), if_pos hw]
      have hs0 : wEnd tp n (p + 1) = wEnd tp n p := by rw [wEnd.eq_1 tp n p, dif_pos (sWd_al hw)]
      have hwe := (wEnd_le tp n p).2 hp
      have key : zLpW (c0 .ne (eCall 134 [(eCall 129 [(eP (pL 3 0)), (eP (pL 1 3))])])) (sInc 3 1) sSkip (zCallD (d + 3)) [(3, 90), (1, ((2000 * A + p : Nat) : Int)), (1, chm tp n p), (1, ((2000 * A + (p + 1) : Nat) : Int)), (0, 0)] (mset σ 95 K 0) (fun e s => s = mset σ 95 K 0 ∧ e = [(3, 90), (1, ((2000 * A + p : Nat) : Int)), (1, chm tp n p), (1, ((2000 * A + wEnd tp n p : Nat) : Int)), (0, 0)]) R T := by
        refine lpW (fun m e s => ∃ q : Nat, m = n - q ∧ q ≤ n ∧ wEnd tp n q = wEnd tp n p ∧ s = mset σ 95 K 0 ∧ e = [(3, 90), (1, ((2000 * A + p : Nat) : Int)), (1, chm tp n p), (1, ((2000 * A + q : Nat) : Int)), (0, 0)]) ?_ (n - (p + 1)) _ _ ⟨p + 1, rfl, hpn, hs0, rfl, rfl⟩
        rintro m e s ⟨q, rfl, hq, hs, rfl, rfl⟩
        have hb' : 2000 * A + q < 2147483640 := by omega
        by_cases g : sWd (chr tp n q) = true
        · have hn : q < n := chr_lt (by intro e; rw [e] at g; exact absurd g (by decide))
          simp only [↓zwq, zpq, zgq, zhq, eq_sto, eq_kill, eq_zSto, eq_mset, eq_zGd, zsq, Int.reduceToNat, List.length_cons, List.length_nil, Nat.reduceAdd, Nat.reduceLT, Nat.reduceEqDiff, Int.reduceLT, Int.reduceLE, Int.reduceEq, Int.reduceNe, Int.reduceNeg, Int.reduceAdd, Int.reduceSub, Int.reduceMul, if_true, if_false, ite_true, ite_false, reduceIte, true_and, and_true, true_implies, forall_const, decide_eq_true_eq, decide_eq_false_iff_not, Bool.not_eq_true', Bool.not_eq_false', Bool.and_eq_true, Bool.or_eq_true, Bool.and_eq_false_iff, Bool.or_eq_false_iff, Bool.not_eq_true, Bool.not_eq_false, Bool.false_eq_true, Bool.true_eq_false, false_implies, implies_true, b2i_ne, b2i_eq, zB_b2i, not_true_eq_false, not_false_eq_true, List.drop_zero, List.drop_succ_cons, zIn_iff, zI8_iff, laq hz.1, s129 (d + 2) hz, s134 (d + 1), chm_W, g, w32b hb']
          refine ⟨n - (q + 1), Nat.sub_lt_sub_left hn (Nat.lt_succ_self _), q + 1, rfl, hn, ?_, rfl⟩
          rw [← hs, wEnd.eq_1 tp n q, dif_pos g]
        · have hq2 : wEnd tp n p = q := by rw [← hs, wEnd, dif_neg g]
          simp only [Bool.not_eq_true] at g
          simp only [↓zwq, zpq, zgq, zhq, eq_sto, eq_kill, eq_zSto, eq_mset, eq_zGd, zsq, Int.reduceToNat, List.length_cons, List.length_nil, Nat.reduceAdd, Nat.reduceLT, Nat.reduceEqDiff, Int.reduceLT, Int.reduceLE, Int.reduceEq, Int.reduceNe, Int.reduceNeg, Int.reduceAdd, Int.reduceSub, Int.reduceMul, if_true, if_false, ite_true, ite_false, reduceIte, true_and, and_true, true_implies, forall_const, decide_eq_true_eq, decide_eq_false_iff_not, Bool.not_eq_true', Bool.not_eq_false', Bool.and_eq_true, Bool.or_eq_true, Bool.and_eq_false_iff, Bool.or_eq_false_iff, Bool.not_eq_true, Bool.not_eq_false, Bool.false_eq_true, Bool.true_eq_false, false_implies, implies_true, b2i_ne, b2i_eq, zB_b2i, not_true_eq_false, not_false_eq_true, List.drop_zero, List.drop_succ_cons, zIn_iff, zI8_iff, laq hz.1, s129 (d + 2) hz, s134 (d + 1), chm_W, g, hq2]
      have hpw := wEnd_lt (sWd_al hw)
      have hbw : 2000 * A + wEnd tp n p < 2147483640 := by omega
      have hz2 : MT tp n A (mset (mset σ 95 K 0) 95 K ((2000 * A + p : Nat) : Int)) := hz.arr (by decide) (by decide) (by decide) (by decide)
      have hlen : p + (wEnd tp n p - p) = wEnd tp n p := by omega
      have z12 : (12 < ((wEnd tp n p - p : Nat) : Int)) = (12 < wEnd tp n p - p) := propext (by omega)
      have fin : R ((2000 * A + wEnd tp n p : Nat) : Int) (mset (mset (mset σ 95 K 0) 95 K ((2000 * A + p : Nat) : Int)) 94 K (mKd (tok tp n p).1)) := by
        have := hR (mset (mset (mset σ 95 K 0) 95 K ((2000 * A + p : Nat) : Int)) 94 K (mKd (tok tp n p).1)) ⟨Fr.at0 (Or.inl rfl) rfl (Fr.at0 (Or.inr rfl) rfl (Fr.at0 (Or.inr rfl) rfl Fr.rf)), by simp [eq_mset], fun _ => by
          have k9 : (tok tp n p).1 ≤ 8 ∧ (tok tp n p).1 ≠ 4 := by
            rw [ht]
            dsimp only
            split
            · decide
            · split
              · decide
              · unfold kwd
                repeat' split
                all_goals decide
          unfold mTv
          rw [if_neg (by omega), if_neg k9.2]
          simp [eq_mset]⟩
        rw [show (tok tp n p).2 = wEnd tp n p - p by rw [ht], hlen] at this
        exact this
      have hkw := fun R => s139 (d + 1) hz2 (p := p) (m := wEnd tp n p - p) (by omega) R T
      have stp : ∀ (N : zV), (∀ e s, (s = mset σ 95 K 0 ∧ e = [(3, 90), (1, ((2000 * A + p : Nat) : Int)), (1, chm tp n p), (1, ((2000 * A + wEnd tp n p : Nat) : Int)), (0, 0)]) → N e s) → zLpW (c0 .ne (eCall 134 [(eCall 129 [(eP (pL 3 0)), (eP (pL 1 3))])])) (sInc 3 1) sSkip (zCallD (d + 3)) [(3, 90), (1, ((2000 * A + p : Nat) : Int)), (1, chm tp n p), (1, ((2000 * A + (p + 1) : Nat) : Int)), (0, 0)] (mset σ 95 K 0) N R T := fun N hN => zLpW_mono (zCallD_mono _) hN (fun _ _ => id) (fun _ _ => id) key
      have e5 : w32 (((2000 * A + wEnd tp n p : Nat) : Int) - ((2000 * A + p : Nat) : Int)) = ((wEnd tp n p - p : Nat) : Int) := w32bsub (Nat.le_of_lt hpw) hbw
      have hw' : isS (chr tp n p) = true ∨ (isS (chr tp n p) = false ∧ isG (chr tp n p) = true) := by
        cases q : isS (chr tp n p) with
        | true => exact Or.inl rfl
        | false => rw [q] at hw; exact Or.inr ⟨rfl, hw.resolve_left (by decide)⟩
      rcases hw' with hw' | hw'
      · simp only [c_137, b_137, ↓zwq, zpq, zgq, zhq, eq_sto, eq_kill, eq_zSto, eq_mset, eq_zGd, zsq, Int.reduceToNat, List.length_cons, List.length_nil, Nat.reduceAdd, Nat.reduceLT, Nat.reduceEqDiff, Int.reduceLT, Int.reduceLE, Int.reduceEq, Int.reduceNe, Int.reduceNeg, Int.reduceAdd, Int.reduceSub, Int.reduceMul, if_true, if_false, ite_true, ite_false, reduceIte, true_and, and_true, true_implies, forall_const, decide_eq_true_eq, decide_eq_false_iff_not, Bool.not_eq_true', Bool.not_eq_false', Bool.and_eq_true, Bool.or_eq_true, Bool.and_eq_false_iff, Bool.or_eq_false_iff, Bool.not_eq_true, Bool.not_eq_false, Bool.false_eq_true, Bool.true_eq_false, false_implies, implies_true, b2i_ne, b2i_eq, zB_b2i, not_true_eq_false, not_false_eq_true, List.drop_zero, List.drop_succ_cons, zIn_iff, zI8_iff, laq hL, s129 (d + 2) h, hK, hin, Int.toNat_natCast, l0, s131, s132, chm_S, chm_G, hw', w32b hb]
        refine stp _ ?_
        rintro e s ⟨rfl, rfl⟩
        rw [ht] at fin
        by_cases y1 : 12 < wEnd tp n p - p
        · rw [if_pos y1] at fin
          simp only [↓zwq, zpq, zgq, zhq, eq_sto, eq_kill, eq_zSto, eq_mset, eq_zGd, zsq, Int.reduceToNat, List.length_cons, List.length_nil, Nat.reduceAdd, Nat.reduceLT, Nat.reduceEqDiff, Int.reduceLT, Int.reduceLE, Int.reduceEq, Int.reduceNe, Int.reduceNeg, Int.reduceAdd, Int.reduceSub, Int.reduceMul, if_true, if_false, ite_true, ite_false, reduceIte, true_and, and_true, true_implies, forall_const, decide_eq_true_eq, decide_eq_false_iff_not, Bool.not_eq_true', Bool.not_eq_false', Bool.and_eq_true, Bool.or_eq_true, Bool.and_eq_false_iff, Bool.or_eq_false_iff, Bool.not_eq_true, Bool.not_eq_false, Bool.false_eq_true, Bool.true_eq_false, false_implies, implies_true, b2i_ne, b2i_eq, zB_b2i, not_true_eq_false, not_false_eq_true, List.drop_zero, List.drop_succ_cons, zIn_iff, zI8_iff, laq hL, hK, hin, Int.toNat_natCast, e5, z12, y1]
          exact fin
        · rw [if_neg y1] at fin
          cases y2 : isG (chr tp n p) with
          | true =>
            rw [if_pos y2] at fin
            simp only [↓zwq, zpq, zgq, zhq, eq_sto, eq_kill, eq_zSto, eq_mset, eq_zGd, zsq, Int.reduceToNat, List.length_cons, List.length_nil, Nat.reduceAdd, Nat.reduceLT, Nat.reduceEqDiff, Int.reduceLT, Int.reduceLE, Int.reduceEq, Int.reduceNe, Int.reduceNeg, Int.reduceAdd, Int.reduceSub, Int.reduceMul, if_true, if_false, ite_true, ite_false, reduceIte, true_and, and_true, true_implies, forall_const, decide_eq_true_eq, decide_eq_false_iff_not, Bool.not_eq_true', Bool.not_eq_false', Bool.and_eq_true, Bool.or_eq_true, Bool.and_eq_false_iff, Bool.or_eq_false_iff, Bool.not_eq_true, Bool.not_eq_false, Bool.false_eq_true, Bool.true_eq_false, false_implies, implies_true, b2i_ne, b2i_eq, zB_b2i, not_true_eq_false, not_false_eq_true, List.drop_zero, List.drop_succ_cons, zIn_iff, zI8_iff, laq hL, hK, hin, Int.toNat_natCast, e5, z12, y1, s132, chm_G, y2]
            exact fin
          | false =>
            rw [if_neg (by rw [y2]; decide)] at fin
            simp only [↓zwq, zpq, zgq, zhq, eq_sto, eq_kill, eq_zSto, eq_mset, eq_zGd, zsq, Int.reduceToNat, List.length_cons, List.length_nil, Nat.reduceAdd, Nat.reduceLT, Nat.reduceEqDiff, Int.reduceLT, Int.reduceLE, Int.reduceEq, Int.reduceNe, Int.reduceNeg, Int.reduceAdd, Int.reduceSub, Int.reduceMul, if_true, if_false, ite_true, ite_false, reduceIte, true_and, and_true, true_implies, forall_const, decide_eq_true_eq, decide_eq_false_iff_not, Bool.not_eq_true', Bool.not_eq_false', Bool.and_eq_true, Bool.or_eq_true, Bool.and_eq_false_iff, Bool.or_eq_false_iff, Bool.not_eq_true, Bool.not_eq_false, Bool.false_eq_true, Bool.true_eq_false, false_implies, implies_true, b2i_ne, b2i_eq, zB_b2i, not_true_eq_false, not_false_eq_true, List.drop_zero, List.drop_succ_cons, zIn_iff, zI8_iff, laq hL, hK, hin, Int.toNat_natCast, e5, z12, y1, s132, chm_G, y2, hkw]
            exact fin
      · simp only [c_137, b_137, ↓zwq, zpq, zgq, zhq, eq_sto, eq_kill, eq_zSto, eq_mset, eq_zGd, zsq, Int.reduceToNat, List.length_cons, List.length_nil, Nat.reduceAdd, Nat.reduceLT, Nat.reduceEqDiff, Int.reduceLT, Int.reduceLE, Int.reduceEq, Int.reduceNe, Int.reduceNeg, Int.reduceAdd, Int.reduceSub, Int.reduceMul, if_true, if_false, ite_true, ite_false, reduceIte, true_and, and_true, true_implies, forall_const, decide_eq_true_eq, decide_eq_false_iff_not, Bool.not_eq_true', Bool.not_eq_false', Bool.and_eq_true, Bool.or_eq_true, Bool.and_eq_false_iff, Bool.or_eq_false_iff, Bool.not_eq_true, Bool.not_eq_false, Bool.false_eq_true, Bool.true_eq_false, false_implies, implies_true, b2i_ne, b2i_eq, zB_b2i, not_true_eq_false, not_false_eq_true, List.drop_zero, List.drop_succ_cons, zIn_iff, zI8_iff, laq hL, s129 (d + 2) h, hK, hin, Int.toNat_natCast, l0, s131, s132, chm_S, chm_G, hw', w32b hb]
        refine stp _ ?_
        rintro e s ⟨rfl, rfl⟩
        rw [ht] at fin
        by_cases y1 : 12 < wEnd tp n p - p
        · rw [if_pos y1] at fin
          simp only [↓zwq, zpq, zgq, zhq, eq_sto, eq_kill, eq_zSto, eq_mset, eq_zGd, zsq, Int.reduceToNat, List.length_cons, List.length_nil, Nat.reduceAdd, Nat.reduceLT, Nat.reduceEqDiff, Int.reduceLT, Int.reduceLE, Int.reduceEq, Int.reduceNe, Int.reduceNeg, Int.reduceAdd, Int.reduceSub, Int.reduceMul, if_true, if_false, ite_true, ite_false, reduceIte, true_and, and_true, true_implies, forall_const, decide_eq_true_eq, decide_eq_false_iff_not, Bool.not_eq_true', Bool.not_eq_false', Bool.and_eq_true, Bool.or_eq_true, Bool.and_eq_false_iff, Bool.or_eq_false_iff, Bool.not_eq_true, Bool.not_eq_false, Bool.false_eq_true, Bool.true_eq_false, false_implies, implies_true, b2i_ne, b2i_eq, zB_b2i, not_true_eq_false, not_false_eq_true, List.drop_zero, List.drop_succ_cons, zIn_iff, zI8_iff, laq hL, hK, hin, Int.toNat_natCast, e5, z12, y1]
          exact fin
        · rw [if_neg y1, if_pos hw'.2] at fin
          simp only [↓zwq, zpq, zgq, zhq, eq_sto, eq_kill, eq_zSto, eq_mset, eq_zGd, zsq, Int.reduceToNat, List.length_cons, List.length_nil, Nat.reduceAdd, Nat.reduceLT, Nat.reduceEqDiff, Int.reduceLT, Int.reduceLE, Int.reduceEq, Int.reduceNe, Int.reduceNeg, Int.reduceAdd, Int.reduceSub, Int.reduceMul, if_true, if_false, ite_true, ite_false, reduceIte, true_and, and_true, true_implies, forall_const, decide_eq_true_eq, decide_eq_false_iff_not, Bool.not_eq_true', Bool.not_eq_false', Bool.and_eq_true, Bool.or_eq_true, Bool.and_eq_false_iff, Bool.or_eq_false_iff, Bool.not_eq_true, Bool.not_eq_false, Bool.false_eq_true, Bool.true_eq_false, false_implies, implies_true, b2i_ne, b2i_eq, zB_b2i, not_true_eq_false, not_false_eq_true, List.drop_zero, List.drop_succ_cons, zIn_iff, zI8_iff, laq hL, hK, hin, Int.toNat_natCast, e5, z12, y1, s132, chm_G, hw'.2]
          exact fin
    · have g1 : isS (chr tp n p) = false := by
        cases q : isS (chr tp n p) with
        | true => exact absurd (Or.inl q) hw
        | false => rfl
      have g2 : isG (chr tp n p) = false := by
        cases q : isG (chr tp n p) with
        | true => exact absurd (Or.inr q) hw
        | false => rfl
      cases g3 : isD (chr tp n p) with
      | true =>
        have hK' : mset σ 95 K 0 90 5 = (K : Int) := hK
        simp only [c_137, b_137, ↓zwq, zpq, zgq, zhq, eq_sto, eq_kill, eq_zSto, eq_mset, eq_zGd, zsq, Int.reduceToNat, List.length_cons, List.length_nil, Nat.reduceAdd, Nat.reduceLT, Nat.reduceEqDiff, Int.reduceLT, Int.reduceLE, Int.reduceEq, Int.reduceNe, Int.reduceNeg, Int.reduceAdd, Int.reduceSub, Int.reduceMul, if_true, if_false, ite_true, ite_false, reduceIte, true_and, and_true, true_implies, forall_const, decide_eq_true_eq, decide_eq_false_iff_not, Bool.not_eq_true', Bool.not_eq_false', Bool.and_eq_true, Bool.or_eq_true, Bool.and_eq_false_iff, Bool.or_eq_false_iff, Bool.not_eq_true, Bool.not_eq_false, Bool.false_eq_true, Bool.true_eq_false, false_implies, implies_true, b2i_ne, b2i_eq, zB_b2i, not_true_eq_false, not_false_eq_true, List.drop_zero, List.drop_succ_cons, zIn_iff, zI8_iff, laq hL, s129 (d + 2) h, hK, hin, Int.toNat_natCast, l0, s131, s132, s133, chm_S, chm_G, chm_D, g1, g2, g3]
        refine s141 (d + 1) hz hpn g1 g2 g3 hK' hK2 R T (fun v hv => hR _ ⟨Fr.at0 (Or.inl rfl) rfl (Fr.at0 (Or.inr rfl) rfl (Fr.at0 (Or.inr rfl) rfl Fr.rf)), by simp [eq_mset], fun z => ?_⟩)
        have k4 : (tok tp n p).1 = 4 := by
          have : (tok tp n p).1 = 4 ∨ (tok tp n p).1 = 1 := by
            unfold tok
            rw [if_neg (by omega), if_neg hw, if_pos g3]
            dsimp only
            split
            · exact Or.inl rfl
            · exact Or.inr rfl
          omega
        unfold mTv
        rw [if_neg (by omega), if_pos k4]
        simp [eq_mset, hv k4]
      | false =>
        have ht : tok tp n p = sgn (chr tp n p) (chr tp n (p + 1)) := by
          unfold tok
          rw [if_neg (by omega), if_neg hw, if_neg (by rw [g3]; decide)]
        have j62 := chm_is tp n (p + 1) (c := 62) (by decide)
        have j61 := chm_is tp n (p + 1) (c := 61) (by decide)
        have cb : chr tp n p < 256 := by unfold chr; rw [if_pos hpn]; exact Int.emod_lt_of_pos _ (by decide)
        simp only [c_137, b_137, ↓zwq, zpq, zgq, zhq, eq_sto, eq_kill, eq_zSto, eq_mset, eq_zGd, zsq, Int.reduceToNat, List.length_cons, List.length_nil, Nat.reduceAdd, Nat.reduceLT, Nat.reduceEqDiff, Int.reduceLT, Int.reduceLE, Int.reduceEq, Int.reduceNe, Int.reduceNeg, Int.reduceAdd, Int.reduceSub, Int.reduceMul, if_true, if_false, ite_true, ite_false, reduceIte, true_and, and_true, true_implies, forall_const, decide_eq_true_eq, decide_eq_false_iff_not, Bool.not_eq_true', Bool.not_eq_false', Bool.and_eq_true, Bool.or_eq_true, Bool.and_eq_false_iff, Bool.or_eq_false_iff, Bool.not_eq_true, Bool.not_eq_false, Bool.false_eq_true, Bool.true_eq_false, false_implies, implies_true, b2i_ne, b2i_eq, zB_b2i, not_true_eq_false, not_false_eq_true, List.drop_zero, List.drop_succ_cons, zIn_iff, zI8_iff, laq hL, s129 (d + 2) h, s129 (d + 2) hz, hK, hin, Int.toNat_natCast, l0, s131, s132, s133, chm_S, chm_G, chm_D, g1, g2, g3, w32b hb, w32bp2 hb, j62, j61, chm_pos hpn, and_self]
        have fr5 : ∀ v, Fr (wAt K) σ (mset (mset (mset σ 95 K 0) 94 K 5) 95 K v) := fun v => Fr.at0 (Or.inr rfl) rfl (Fr.at0 (Or.inl rfl) rfl (Fr.at0 (Or.inr rfl) rfl Fr.rf))
        have tv : 9 ≤ (tok tp n p).1 → mTv tp n A p = mVl (tok tp n p).1 := fun z => by unfold mTv; rw [if_pos z]
        unfold P137 at hR
        rw [ht] at hR tv
        have fx := sgn_m (chr tp n p) (chr tp n (p + 1)) cb
        have c0 : ¬ chr tp n p < 0 := by rw [← chm_pos hpn, l0]; exact id
        refine ⟨fun z => absurd z c0, fun _ => ⟨fun z => ?_, fun z => ⟨fun y => ?_, fun y => ?_⟩⟩⟩
        · obtain ⟨f1, f2, f3, f4⟩ := fx.1 z
          have := hR _ ⟨fr5 (sv (chr tp n p) (chr tp n (p + 1))), by rw [f2]; simp [eq_mset], fun _ => by rw [tv f3, f4]; simp [eq_mset]⟩
          rw [f1] at this
          exact this
        · obtain ⟨f1, f2, -⟩ := fx.2 z
          have f3 := f2 y
          have := hR (mset (mset (mset (mset σ 95 K 0) 94 K 5) 95 K (sv (chr tp n p) (chr tp n (p + 1)))) 94 K 1) ⟨Fr.at0 (Or.inl rfl) rfl (fr5 _), by rw [f3]; simp [eq_mset, mKd], fun q => by rw [f3] at q; exact absurd q (by decide)⟩
          rw [f1] at this
          exact this
        · obtain ⟨f1, -, f2⟩ := fx.2 z
          obtain ⟨f3, f4, f5⟩ := f2 y
          have := hR _ ⟨fr5 (sv (chr tp n p) (chr tp n (p + 1))), by rw [f3]; simp [eq_mset], fun _ => by rw [tv f4, f5]; simp [eq_mset]⟩
          rw [f1] at this
          exact this
  · have ht : tok tp n p = (0, 0) := by unfold tok; rw [if_pos (by omega)]
    have l0 : (chm tp n p < 0) = True := by rw [chm_lt0]; exact eq_true hpn
    simp only [c_137, b_137, ↓zwq, zpq, zgq, zhq, eq_sto, eq_kill, eq_zSto, eq_mset, eq_zGd, zsq, Int.reduceToNat, List.length_cons, List.length_nil, Nat.reduceAdd, Nat.reduceLT, Nat.reduceEqDiff, Int.reduceLT, Int.reduceLE, Int.reduceEq, Int.reduceNe, Int.reduceNeg, Int.reduceAdd, Int.reduceSub, Int.reduceMul, if_true, if_false, ite_true, ite_false, reduceIte, true_and, and_true, true_implies, forall_const, decide_eq_true_eq, decide_eq_false_iff_not, Bool.not_eq_true', Bool.not_eq_false', Bool.and_eq_true, Bool.or_eq_true, Bool.and_eq_false_iff, Bool.or_eq_false_iff, Bool.not_eq_true, Bool.not_eq_false, Bool.false_eq_true, Bool.true_eq_false, false_implies, implies_true, b2i_ne, b2i_eq, zB_b2i, not_true_eq_false, not_false_eq_true, List.drop_zero, List.drop_succ_cons, zIn_iff, zI8_iff, laq hL, s129 (d + 2) h, hK, hin, Int.toNat_natCast, l0]
    have := hR (mset (mset σ 95 K 0) 94 K 0) ⟨Fr.at0 (Or.inl rfl) rfl (Fr.at0 (Or.inr rfl) rfl Fr.rf), by rw [ht]; simp [eq_mset, mKd], fun z => by rw [ht] at z; exact absurd z (by decide)⟩
    rw [ht] at this
    exact this
