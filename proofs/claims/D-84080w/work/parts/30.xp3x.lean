/-! names in a row -/
def nmL : Nat → Nat → Fm
  | _, 0 => .nil
  | i, c + 1 => .append (nd 9 i .nil .nil) (nmL (i + 1) c)
theorem nmL_len : ∀ (c i : Nat), fLen (nmL i c) = c
  | 0, _ => rfl
  | c + 1, i => by show fLen (nmL (i + 1) c) + 1 = c + 1; rw [nmL_len c]
theorem pNm_eq {kd : Nat → Nat} {bl : Bool} : ∀ (F i j : Nat), i ≤ j → (∀ k, i ≤ k → k < j → kd k = 2 ∨ (bl = true ∧ kd k = 24)) → ¬ (kd j = 2 ∨ (bl = true ∧ kd j = 24)) → j - i ≤ F → pNm kd bl F i = (nmL i (j - i), j)
  | 0, i, j, h1, h2, h3, h4 => by
    have : j = i := by omega
    subst this
    rw [Nat.sub_self]; rfl
  | F + 1, i, j, h1, h2, h3, h4 => by
    by_cases e : i = j
    · subst e
      rw [Nat.sub_self]
      unfold pNm
      rw [if_neg h3]; rfl
    · unfold pNm
      rw [if_pos (h2 i (Nat.le_refl _) (by omega)), pNm_eq F (i + 1) j (by omega) (fun k a b => h2 k (by omega) b) h3 (by omega), show j - i = (j - (i + 1)) + 1 by omega]
      rfl
/-- names that lie one behind the other -/
def Row (kd : Nat → Nat) (pl : Nat → Int) (X : Nat → Nat → Int) (N i c : Nat) : Prop := ∀ k, k < c → X 0 (N + k) = 9 ∧ X 1 (N + k) = pl (i + k) ∧ X 7 (N + k) = (if kd (i + k) = 24 then -1 else ((i + k : Nat) : Int)) ∧ X 6 (N + k) = if k + 1 < c then ((N + (k + 1) : Nat) : Int) else -1
theorem rX_row {kd : Nat → Nat} {pl vl mk : Nat → Int} {X : Nat → Nat → Int} {lo hi : Nat} : ∀ (c N i : Nat), lo ≤ N → N + c ≤ hi → Row kd pl X N i c → rX kd pl vl mk X lo hi (nmL i c) (if c = 0 then -1 else (N : Int))
  | 0, _, _, _, _, _ => rfl
  | c + 1, N, i, h1, h2, h => by
    rw [if_neg (by omega)]
    have h0 := h 0 (by omega)
    refine ⟨N, rfl, h1, by omega, ⟨N, rfl, h1, by omega, ?_⟩, ?_⟩
    · simp only [Nat.add_zero] at h0
      refine ⟨by rw [h0.1]; rfl, fun _ => h0.2.1, ?_⟩
      simp [h0.2.2.1]
    · have h6 := h0.2.2.2
      simp only [Nat.add_zero, Nat.zero_add] at h6
      have q := rX_row (kd := kd) (pl := pl) (vl := vl) (mk := mk) (X := X) (lo := lo) (hi := hi) c (N + 1) (i + 1) (by omega) (by omega) (fun k hk => by
        have z := h (k + 1) (by omega)
        rw [show N + 1 + k = N + (k + 1) by omega, show i + 1 + k = i + (k + 1) by omega]
        refine ⟨z.1, z.2.1, z.2.2.1, ?_⟩
        rw [z.2.2.2]
        by_cases g : k + 1 < c
        · rw [if_pos g, if_pos (by omega), show N + 1 + (k + 1) = N + (k + 1 + 1) by omega]
        · rw [if_neg g, if_neg (by omega)])
      rw [h6]
      by_cases g : c = 0
      · subst g; exact q
      · rw [if_neg g] at q
        rw [if_pos (by omega)]
        exact q
theorem Row.fr {kd : Nat → Nat} {pl : Nat → Int} {X Y : Nat → Nat → Int} {N i c : Nat} (h : Row kd pl X N i c) (hy : ∀ f k, N ≤ k → k < N + c → Y f k = X f k) : Row kd pl Y N i c := fun k hk => by
  rw [hy 0 _ (by omega) (by omega), hy 1 _ (by omega) (by omega), hy 7 _ (by omega) (by omega), hy 6 _ (by omega) (by omega)]
  exact h k hk
/-- one name more -/
theorem Row.more {kd : Nat → Nat} {pl : Nat → Int} {X Y : Nat → Nat → Int} {N i c : Nat} (h : Row kd pl X N i c) (hy : ∀ f k, N ≤ k → k < N + c → (f = 6 → k + 1 ≠ N + c) → Y f k = X f k) (h6 : 0 < c → Y 6 (N + c - 1) = ((N + c : Nat) : Int)) (g0 : Y 0 (N + c) = 9) (g1 : Y 1 (N + c) = pl (i + c)) (g7 : Y 7 (N + c) = (if kd (i + c) = 24 then -1 else ((i + c : Nat) : Int))) (g6 : Y 6 (N + c) = -1) : Row kd pl Y N i (c + 1) := fun k hk => by
  by_cases e : k = c
  · subst e
    refine ⟨g0, g1, g7, ?_⟩
    rw [if_neg (by omega)]; exact g6
  · have z := h k (by omega)
    refine ⟨by rw [hy 0 _ (by omega) (by omega) (by omega)]; exact z.1, by rw [hy 1 _ (by omega) (by omega) (by omega)]; exact z.2.1, by rw [hy 7 _ (by omega) (by omega) (by omega)]; exact z.2.2.1, ?_⟩
    by_cases e2 : k + 1 = c
    · rw [if_pos (by omega)]
      have := h6 (by omega)
      rw [show N + c - 1 = N + k by omega] at this
      rw [this, e2]
    · rw [hy 6 _ (by omega) (by omega) (fun _ => by omega), z.2.2.2, if_pos (by omega), if_pos (by omega)]
section
variable {tp : Nat → Int} {n e tr pr i o N : Nat} {ml : Nat → List (List Int)} {σ : Mem}
theorem xNames44 (d : Nat) (h : XP tp n e tr pr ml i o N σ) (hN : N ≤ 2 * i) (hml : ∀ k, k < e → kdT tp n k ≠ 3 → ml (k + 1) = ml k) (tk : Int) (K : zV) (R T : zK)
    (hK : ∀ j τ, i ≤ j → (∀ k, i ≤ k → k < j → kdT tp n k = 2) → kdT tp n j ≠ 2 → XP tp n e tr pr ml j o (N + (j - i)) τ → XFr tr N σ τ → Row (kdT tp n) (plT tp n) (xr τ tr) N i (j - i) → K [(3, 7), (1, tk), (1, if (j - i) = 0 then -1 else (N : Int)), (1, (((j - i) : Nat) : Int)), (1, if (j - i) = 0 then -1 else ((N + (j - i) - 1 : Nat) : Int)), (0, 0), (0, 0)] τ) :
    zLpW (c0 .ne (eCall 36 [(eP (pL 3 0)), (eP (pI 2))])) (sBlk 5 (sSeq (sSt 1 5 (eCall 45 [(eP (pL 3 0))]))
  (sSeq (sIfE (cP (kI .eq (pL 1 4) (pI (-1))))
  (sSt 1 2 (eP (pL 1 5)))
  (sSe 1 (eP (p1 (oGf 5 6 3) (p1 (oGf 2 2 3) (pL 3 0)))) (eP (pL 1 4)) (eP (pL 1 5))))
  (sSeq (sSt 1 4 (eP (pL 1 5)))
  (sInc 3 1))))) sSkip (zCallD (d + 3)) [(3, 7), (1, tk), (1, -1), (1, 0), (1, -1), (0, 0), (0, 0)] σ K R T := by
  refine lpW (fun m en s => ∃ j, m = e - j ∧ i ≤ j ∧ (∀ k, i ≤ k → k < j → kdT tp n k = 2) ∧ XP tp n e tr pr ml j o (N + (j - i)) s ∧ XFr tr N σ s ∧ Row (kdT tp n) (plT tp n) (xr s tr) N i (j - i) ∧ en = [(3, 7), (1, tk), (1, if (j - i) = 0 then -1 else (N : Int)), (1, (((j - i) : Nat) : Int)), (1, if (j - i) = 0 then -1 else ((N + (j - i) - 1 : Nat) : Int)), (0, 0), (0, 0)]) ?_ (e - i) _ _ ⟨i, rfl, Nat.le_refl _, fun k a b => by omega, by rw [Nat.sub_self]; exact h, XFr.rf, fun k hk => by omega, by rw [Nat.sub_self]; rfl⟩
  rintro m en s ⟨j, rfl, hij, hk, hX, hF, hRow, rfl⟩
  have hL := hX.lay
  have ht := hX.1.2.2.2.2.2.1
  have hje := hX.2.2.2.2.1
  have he := hX.1.2.2.1
  by_cases g : kdT tp n j = 2
  · have hj : j < e := by
      refine Nat.lt_of_le_of_ne hje fun z => ?_
      have := hX.1.2.2.2.2.2.2.2.1
      rw [← z, g] at this; omega
    have hm : e - (j + 1) < e - j := by omega
    have hcb : j - i < 2147483647 := by omega
    simp only [↓zwq, zpq, zgq, zhq, eq_sto, eq_kill, eq_zSto, eq_mset, eq_zGd, zsq, Int.reduceToNat, List.length_cons, List.length_nil, Nat.reduceAdd, Nat.reduceLT, Nat.reduceEqDiff, Int.reduceLT, Int.reduceLE, Int.reduceEq, Int.reduceNe, Int.reduceNeg, Int.reduceAdd, Int.reduceSub, Int.reduceMul, if_true, if_false, ite_true, ite_false, reduceIte, true_and, and_true, true_implies, forall_const, decide_eq_true_eq, decide_eq_false_iff_not, Bool.not_eq_true', Bool.not_eq_false', Bool.and_eq_true, Bool.or_eq_true, Bool.and_eq_false_iff, Bool.or_eq_false_iff, Bool.not_eq_true, Bool.not_eq_false, Bool.false_eq_true, Bool.true_eq_false, false_implies, implies_true, b2i_ne, b2i_eq, zB_b2i, not_true_eq_false, not_false_eq_true, List.drop_zero, List.drop_succ_cons, zIn_iff, zI8_iff, or_false, false_or, or_true, true_or, and_false, false_and, Decidable.not_not, s36 (d + 2) hX, nlit, g]
    refine s45 (d + 1) hX hj (by omega) (hml j hj (by rw [g]; decide)) _ _ (fun τ hX2 hF2 q0 q1 q7 q6 => ?_)
    have hL2 := hX2.lay
    have h2 := hX2.1.2.2.2.1
    rw [if_neg (by rw [g]; decide)] at q7
    have ec : N + (j - i) + 1 = N + (j + 1 - i) := by omega
    have ec2 : j - i + 1 = j + 1 - i := by omega
    have hk' : ∀ k, i ≤ k → k < j + 1 → kdT tp n k = 2 := fun k a b => by
      by_cases z : k = j
      · rw [z]; exact g
      · exact hk k a (by omega)
    have hin : (0 : Int) ≤ ((N + (j - i) - 1 : Nat) : Int) ∧ ((N + (j - i) - 1 : Nat) : Int) < ((4096 : Nat) : Int) := by omega
    have hne : ((N + (j - i) - 1 : Nat) : Int) ≠ -1 := by omega
    rw [ec] at hX2
    have q7' : xr τ tr 7 (N + (j - i)) = if kdT tp n (i + (j - i)) = 24 then -1 else ((i + (j - i) : Nat) : Int) := by
      rw [Nat.add_sub_cancel' hij, if_neg (by rw [g]; decide)]; exact q7
    have q1' : xr τ tr 1 (N + (j - i)) = plT tp n (i + (j - i)) := by rw [Nat.add_sub_cancel' hij]; exact q1
    by_cases c0 : j - i = 0
    · have ce : j = i := by omega
      have r1 : Row (kdT tp n) (plT tp n) (xr τ tr) N i (j + 1 - i) := by
        rw [← ec2]
        exact hRow.more (fun f k a b _ => by omega) (fun z => by omega) q0 q1' q7' q6
      subst ce
      simp only [↓zwq, zpq, zgq, zhq, eq_sto, eq_kill, eq_zSto, eq_mset, eq_zGd, zsq, Int.reduceToNat, List.length_cons, List.length_nil, Nat.reduceAdd, Nat.reduceLT, Nat.reduceEqDiff, Int.reduceLT, Int.reduceLE, Int.reduceEq, Int.reduceNe, Int.reduceNeg, Int.reduceAdd, Int.reduceSub, Int.reduceMul, if_true, if_false, ite_true, ite_false, reduceIte, true_and, and_true, true_implies, forall_const, decide_eq_true_eq, decide_eq_false_iff_not, Bool.not_eq_true', Bool.not_eq_false', Bool.and_eq_true, Bool.or_eq_true, Bool.and_eq_false_iff, Bool.or_eq_false_iff, Bool.not_eq_true, Bool.not_eq_false, Bool.false_eq_true, Bool.true_eq_false, false_implies, implies_true, b2i_ne, b2i_eq, zB_b2i, not_true_eq_false, not_false_eq_true, List.drop_zero, List.drop_succ_cons, zIn_iff, zI8_iff, or_false, false_or, or_true, true_or, and_false, false_and, Decidable.not_not, Nat.sub_self, Nat.add_zero]
      refine ⟨_, hm, j + 1, rfl, Nat.le_succ _, hk', hX2, hF.tr hF2 (by omega), r1, ?_⟩
      rw [show j + 1 - j = 1 by omega]
      simp [w32]
    · have c0' : ¬ ((j - i : Nat) = 0) := c0
      have r1 : Row (kdT tp n) (plT tp n) (xr (mset τ (tr + 7) (N + (j - i) - 1) ((N + (j - i) : Nat) : Int)) tr) N i (j + 1 - i) := by
        rw [← ec2]
        refine hRow.more (fun f k a b z => ?_) (fun _ => ?_) ?_ ?_ ?_ ?_
        · rw [xr_set (f := 6) rfl (by decide), if_neg (fun y => z y.1 (by omega))]; exact hF2.2 f k (by omega)
        · rw [xr_set (f := 6) rfl (by decide), if_pos ⟨rfl, rfl⟩]
        · rw [xr_set (f := 6) rfl (by decide), if_neg (fun y => absurd y.1 (by decide))]; exact q0
        · rw [xr_set (f := 6) rfl (by decide), if_neg (fun y => absurd y.1 (by decide))]; exact q1'
        · rw [xr_set (f := 6) rfl (by decide), if_neg (fun y => absurd y.1 (by decide))]; exact q7'
        · rw [xr_set (f := 6) rfl (by decide), if_neg (fun y => by omega)]; exact q6
      have x1 : XP tp n e tr pr ml (j + 1) o (N + (j + 1 - i)) (mset τ (tr + 7) (N + (j - i) - 1) ((N + (j - i) : Nat) : Int)) := hX2.setn (f := 6) rfl (by decide)
      have f1 : XFr tr N σ (mset τ (tr + 7) (N + (j - i) - 1) ((N + (j - i) : Nat) : Int)) := (hF.tr hF2 (by omega)).setn (f := 6) rfl (by decide) (by omega)
      have ne1 : ¬ j + 1 - i = 0 := by omega
      have l1 : N + (j + 1 - i) - 1 = N + (j - i) := by omega
      simp only [↓zwq, zpq, zgq, zhq, eq_sto, eq_kill, eq_zSto, eq_mset, eq_zGd, zsq, Int.reduceToNat, List.length_cons, List.length_nil, Nat.reduceAdd, Nat.reduceLT, Nat.reduceEqDiff, Int.reduceLT, Int.reduceLE, Int.reduceEq, Int.reduceNe, Int.reduceNeg, Int.reduceAdd, Int.reduceSub, Int.reduceMul, if_true, if_false, ite_true, ite_false, reduceIte, true_and, and_true, true_implies, forall_const, decide_eq_true_eq, decide_eq_false_iff_not, Bool.not_eq_true', Bool.not_eq_false', Bool.and_eq_true, Bool.or_eq_true, Bool.and_eq_false_iff, Bool.or_eq_false_iff, Bool.not_eq_true, Bool.not_eq_false, Bool.false_eq_true, Bool.true_eq_false, false_implies, implies_true, b2i_ne, b2i_eq, zB_b2i, not_true_eq_false, not_false_eq_true, List.drop_zero, List.drop_succ_cons, zIn_iff, zI8_iff, or_false, false_or, or_true, true_or, and_false, false_and, Decidable.not_not, c0', hne, laq hL2, h2, Int.toNat_natCast, trq hL2 ht, trs ht, hin, w32s hcb]
      refine ⟨_, hm, j + 1, rfl, Nat.le_succ_of_le hij, hk', x1, f1, r1, ?_⟩
      rw [if_neg ne1, if_neg ne1, l1, ← ec2]
  · simp only [↓zwq, zpq, zgq, zhq, eq_sto, eq_kill, eq_zSto, eq_mset, eq_zGd, zsq, Int.reduceToNat, List.length_cons, List.length_nil, Nat.reduceAdd, Nat.reduceLT, Nat.reduceEqDiff, Int.reduceLT, Int.reduceLE, Int.reduceEq, Int.reduceNe, Int.reduceNeg, Int.reduceAdd, Int.reduceSub, Int.reduceMul, if_true, if_false, ite_true, ite_false, reduceIte, true_and, and_true, true_implies, forall_const, decide_eq_true_eq, decide_eq_false_iff_not, Bool.not_eq_true', Bool.not_eq_false', Bool.and_eq_true, Bool.or_eq_true, Bool.and_eq_false_iff, Bool.or_eq_false_iff, Bool.not_eq_true, Bool.not_eq_false, Bool.false_eq_true, Bool.true_eq_false, false_implies, implies_true, b2i_ne, b2i_eq, zB_b2i, not_true_eq_false, not_false_eq_true, List.drop_zero, List.drop_succ_cons, zIn_iff, zI8_iff, or_false, false_or, or_true, true_or, and_false, false_and, Decidable.not_not, s36 (d + 2) hX, nlit, g]
    exact hK j s hij hk g hX hF hRow
theorem xNames50 (d : Nat) (h : XP tp n e tr pr ml i o N σ) (hN : N ≤ 2 * i) (hml : ∀ k, k < e → kdT tp n k ≠ 3 → ml (k + 1) = ml k) (tk : Int) (K : zV) (R T : zK)
    (hK : ∀ j τ, i ≤ j → (∀ k, i ≤ k → k < j → kdT tp n k = 2) → kdT tp n j ≠ 2 → XP tp n e tr pr ml j o (N + (j - i)) τ → XFr tr N σ τ → Row (kdT tp n) (plT tp n) (xr τ tr) N i (j - i) → K [(3, 7), (1, tk), (1, if (j - i) = 0 then -1 else (N : Int)), (1, (((j - i) : Nat) : Int)), (1, if (j - i) = 0 then -1 else ((N + (j - i) - 1 : Nat) : Int)), (0, 0)] τ) :
    zLpW (c0 .ne (eCall 36 [(eP (pL 3 0)), (eP (pI 2))])) (sBlk 5 (sSeq (sSt 1 5 (eCall 45 [(eP (pL 3 0))]))
  (sSeq (sIfE (cP (kI .eq (pL 1 4) (pI (-1))))
  (sSt 1 2 (eP (pL 1 5)))
  (sSe 1 (eP (p1 (oGf 5 6 3) (p1 (oGf 2 2 3) (pL 3 0)))) (eP (pL 1 4)) (eP (pL 1 5))))
  (sSeq (sSt 1 4 (eP (pL 1 5)))
  (sInc 3 1))))) sSkip (zCallD (d + 3)) [(3, 7), (1, tk), (1, -1), (1, 0), (1, -1), (0, 0)] σ K R T := by
  refine lpW (fun m en s => ∃ j, m = e - j ∧ i ≤ j ∧ (∀ k, i ≤ k → k < j → kdT tp n k = 2) ∧ XP tp n e tr pr ml j o (N + (j - i)) s ∧ XFr tr N σ s ∧ Row (kdT tp n) (plT tp n) (xr s tr) N i (j - i) ∧ en = [(3, 7), (1, tk), (1, if (j - i) = 0 then -1 else (N : Int)), (1, (((j - i) : Nat) : Int)), (1, if (j - i) = 0 then -1 else ((N + (j - i) - 1 : Nat) : Int)), (0, 0)]) ?_ (e - i) _ _ ⟨i, rfl, Nat.le_refl _, fun k a b => by omega, by rw [Nat.sub_self]; exact h, XFr.rf, fun k hk => by omega, by rw [Nat.sub_self]; rfl⟩
  rintro m en s ⟨j, rfl, hij, hk, hX, hF, hRow, rfl⟩
  have hL := hX.lay
  have ht := hX.1.2.2.2.2.2.1
  have hje := hX.2.2.2.2.1
  have he := hX.1.2.2.1
  by_cases g : kdT tp n j = 2
  · have hj : j < e := by
      refine Nat.lt_of_le_of_ne hje fun z => ?_
      have := hX.1.2.2.2.2.2.2.2.1
      rw [← z, g] at this; omega
    have hm : e - (j + 1) < e - j := by omega
    have hcb : j - i < 2147483647 := by omega
    simp only [↓zwq, zpq, zgq, zhq, eq_sto, eq_kill, eq_zSto, eq_mset, eq_zGd, zsq, Int.reduceToNat, List.length_cons, List.length_nil, Nat.reduceAdd, Nat.reduceLT, Nat.reduceEqDiff, Int.reduceLT, Int.reduceLE, Int.reduceEq, Int.reduceNe, Int.reduceNeg, Int.reduceAdd, Int.reduceSub, Int.reduceMul, if_true, if_false, ite_true, ite_false, reduceIte, true_and, and_true, true_implies, forall_const, decide_eq_true_eq, decide_eq_false_iff_not, Bool.not_eq_true', Bool.not_eq_false', Bool.and_eq_true, Bool.or_eq_true, Bool.and_eq_false_iff, Bool.or_eq_false_iff, Bool.not_eq_true, Bool.not_eq_false, Bool.false_eq_true, Bool.true_eq_false, false_implies, implies_true, b2i_ne, b2i_eq, zB_b2i, not_true_eq_false, not_false_eq_true, List.drop_zero, List.drop_succ_cons, zIn_iff, zI8_iff, or_false, false_or, or_true, true_or, and_false, false_and, Decidable.not_not, s36 (d + 2) hX, nlit, g]
    refine s45 (d + 1) hX hj (by omega) (hml j hj (by rw [g]; decide)) _ _ (fun τ hX2 hF2 q0 q1 q7 q6 => ?_)
    have hL2 := hX2.lay
    have h2 := hX2.1.2.2.2.1
    rw [if_neg (by rw [g]; decide)] at q7
    have ec : N + (j - i) + 1 = N + (j + 1 - i) := by omega
    have ec2 : j - i + 1 = j + 1 - i := by omega
    have hk' : ∀ k, i ≤ k → k < j + 1 → kdT tp n k = 2 := fun k a b => by
      by_cases z : k = j
      · rw [z]; exact g
      · exact hk k a (by omega)
    have hin : (0 : Int) ≤ ((N + (j - i) - 1 : Nat) : Int) ∧ ((N + (j - i) - 1 : Nat) : Int) < ((4096 : Nat) : Int) := by omega
    have hne : ((N + (j - i) - 1 : Nat) : Int) ≠ -1 := by omega
    rw [ec] at hX2
    have q7' : xr τ tr 7 (N + (j - i)) = if kdT tp n (i + (j - i)) = 24 then -1 else ((i + (j - i) : Nat) : Int) := by
      rw [Nat.add_sub_cancel' hij, if_neg (by rw [g]; decide)]; exact q7
    have q1' : xr τ tr 1 (N + (j - i)) = plT tp n (i + (j - i)) := by rw [Nat.add_sub_cancel' hij]; exact q1
    by_cases c0 : j - i = 0
    · have ce : j = i := by omega
      have r1 : Row (kdT tp n) (plT tp n) (xr τ tr) N i (j + 1 - i) := by
        rw [← ec2]
        exact hRow.more (fun f k a b _ => by omega) (fun z => by omega) q0 q1' q7' q6
      subst ce
      simp only [↓zwq, zpq, zgq, zhq, eq_sto, eq_kill, eq_zSto, eq_mset, eq_zGd, zsq, Int.reduceToNat, List.length_cons, List.length_nil, Nat.reduceAdd, Nat.reduceLT, Nat.reduceEqDiff, Int.reduceLT, Int.reduceLE, Int.reduceEq, Int.reduceNe, Int.reduceNeg, Int.reduceAdd, Int.reduceSub, Int.reduceMul, if_true, if_false, ite_true, ite_false, reduceIte, true_and, and_true, true_implies, forall_const, decide_eq_true_eq, decide_eq_false_iff_not, Bool.not_eq_true', Bool.not_eq_false', Bool.and_eq_true, Bool.or_eq_true, Bool.and_eq_false_iff, Bool.or_eq_false_iff, Bool.not_eq_true, Bool.not_eq_false, Bool.false_eq_true, Bool.true_eq_false, false_implies, implies_true, b2i_ne, b2i_eq, zB_b2i, not_true_eq_false, not_false_eq_true, List.drop_zero, List.drop_succ_cons, zIn_iff, zI8_iff, or_false, false_or, or_true, true_or, and_false, false_and, Decidable.not_not, Nat.sub_self, Nat.add_zero]
      refine ⟨_, hm, j + 1, rfl, Nat.le_succ _, hk', hX2, hF.tr hF2 (by omega), r1, ?_⟩
      rw [show j + 1 - j = 1 by omega]
      simp [w32]
    · have c0' : ¬ ((j - i : Nat) = 0) := c0
      have r1 : Row (kdT tp n) (plT tp n) (xr (mset τ (tr + 7) (N + (j - i) - 1) ((N + (j - i) : Nat) : Int)) tr) N i (j + 1 - i) := by
        rw [← ec2]
        refine hRow.more (fun f k a b z => ?_) (fun _ => ?_) ?_ ?_ ?_ ?_
        · rw [xr_set (f := 6) rfl (by decide), if_neg (fun y => z y.1 (by omega))]; exact hF2.2 f k (by omega)
        · rw [xr_set (f := 6) rfl (by decide), if_pos ⟨rfl, rfl⟩]
        · rw [xr_set (f := 6) rfl (by decide), if_neg (fun y => absurd y.1 (by decide))]; exact q0
        · rw [xr_set (f := 6) rfl (by decide), if_neg (fun y => absurd y.1 (by decide))]; exact q1'
        · rw [xr_set (f := 6) rfl (by decide), if_neg (fun y => absurd y.1 (by decide))]; exact q7'
        · rw [xr_set (f := 6) rfl (by decide), if_neg (fun y => by omega)]; exact q6
      have x1 : XP tp n e tr pr ml (j + 1) o (N + (j + 1 - i)) (mset τ (tr + 7) (N + (j - i) - 1) ((N + (j - i) : Nat) : Int)) := hX2.setn (f := 6) rfl (by decide)
      have f1 : XFr tr N σ (mset τ (tr + 7) (N + (j - i) - 1) ((N + (j - i) : Nat) : Int)) := (hF.tr hF2 (by omega)).setn (f := 6) rfl (by decide) (by omega)
      have ne1 : ¬ j + 1 - i = 0 := by omega
      have l1 : N + (j + 1 - i) - 1 = N + (j - i) := by omega
      simp only [↓zwq, zpq, zgq, zhq, eq_sto, eq_kill, eq_zSto, eq_mset, eq_zGd, zsq, Int.reduceToNat, List.length_cons, List.length_nil, Nat.reduceAdd, Nat.reduceLT, Nat.reduceEqDiff, Int.reduceLT, Int.reduceLE, Int.reduceEq, Int.reduceNe, Int.reduceNeg, Int.reduceAdd, Int.reduceSub, Int.reduceMul, if_true, if_false, ite_true, ite_false, reduceIte, true_and, and_true, true_implies, forall_const, decide_eq_true_eq, decide_eq_false_iff_not, Bool.not_eq_true', Bool.not_eq_false', Bool.and_eq_true, Bool.or_eq_true, Bool.and_eq_false_iff, Bool.or_eq_false_iff, Bool.not_eq_true, Bool.not_eq_false, Bool.false_eq_true, Bool.true_eq_false, false_implies, implies_true, b2i_ne, b2i_eq, zB_b2i, not_true_eq_false, not_false_eq_true, List.drop_zero, List.drop_succ_cons, zIn_iff, zI8_iff, or_false, false_or, or_true, true_or, and_false, false_and, Decidable.not_not, c0', hne, laq hL2, h2, Int.toNat_natCast, trq hL2 ht, trs ht, hin, w32s hcb]
      refine ⟨_, hm, j + 1, rfl, Nat.le_succ_of_le hij, hk', x1, f1, r1, ?_⟩
      rw [if_neg ne1, if_neg ne1, l1, ← ec2]
  · simp only [↓zwq, zpq, zgq, zhq, eq_sto, eq_kill, eq_zSto, eq_mset, eq_zGd, zsq, Int.reduceToNat, List.length_cons, List.length_nil, Nat.reduceAdd, Nat.reduceLT, Nat.reduceEqDiff, Int.reduceLT, Int.reduceLE, Int.reduceEq, Int.reduceNe, Int.reduceNeg, Int.reduceAdd, Int.reduceSub, Int.reduceMul, if_true, if_false, ite_true, ite_false, reduceIte, true_and, and_true, true_implies, forall_const, decide_eq_true_eq, decide_eq_false_iff_not, Bool.not_eq_true', Bool.not_eq_false', Bool.and_eq_true, Bool.or_eq_true, Bool.and_eq_false_iff, Bool.or_eq_false_iff, Bool.not_eq_true, Bool.not_eq_false, Bool.false_eq_true, Bool.true_eq_false, false_implies, implies_true, b2i_ne, b2i_eq, zB_b2i, not_true_eq_false, not_false_eq_true, List.drop_zero, List.drop_succ_cons, zIn_iff, zI8_iff, or_false, false_or, or_true, true_or, and_false, false_and, Decidable.not_not, s36 (d + 2) hX, nlit, g]
    exact hK j s hij hk g hX hF hRow
end
