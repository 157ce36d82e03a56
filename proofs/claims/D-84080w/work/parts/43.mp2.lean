/-! LazyFormsModel's reader: names in a row -/
def RowM (kd : Nat → Nat) (tv pl : Nat → Int) (Y : Nat → Nat → Int) (N i c : Nat) : Prop := ∀ k, k < c → Y 0 (N + k) = 10 ∧ Y 5 (N + k) = pl (i + k) ∧ Y 1 (N + k) = (if kd (i + k) = 24 then -1 else tv (i + k)) ∧ Y 4 (N + k) = if k + 1 < c then ((N + (k + 1) : Nat) : Int) else -1
theorem rM_row {kd : Nat → Nat} {tv pl : Nat → Int} {X : Nat → Nat → Int} {lo hi : Nat} : ∀ (c N i : Nat), lo ≤ N → N + c ≤ hi → RowM kd tv pl X N i c → rM kd tv pl X lo hi (nmL i c) (if c = 0 then -1 else (N : Int))
  | 0, _, _, _, _, _ => rfl
  | c + 1, N, i, h1, h2, h => by
    rw [if_neg (by omega)]
    have h0 := h 0 (by omega)
    refine ⟨N, rfl, h1, by omega, ⟨N, rfl, h1, by omega, ?_⟩, ?_⟩
    · simp only [Nat.add_zero] at h0
      refine ⟨by rw [h0.1]; rfl, h0.2.1, ?_⟩
      simp [h0.2.2.1]
    · have h6 := h0.2.2.2
      simp only [Nat.add_zero, Nat.zero_add] at h6
      have q := rM_row (kd := kd) (tv := tv) (pl := pl) (X := X) (lo := lo) (hi := hi) c (N + 1) (i + 1) (by omega) (by omega) (fun k hk => by
        have z := h (k + 1) (by omega)
        rw [show N + 1 + k = N + (k + 1) by omega, show i + 1 + k = i + (k + 1) by omega]
        refine ⟨z.1, z.2.1, z.2.2.1, ?_⟩
        rw [z.2.2.2]
        by_cases g : k + 1 < c
        · rw [if_pos g, if_pos (by omega), show N + 1 + (k + 1) = N + (k + 1 + 1) by omega]
        · rw [if_neg g, if_neg (by omega)])
      rw [h6]
      by_cases g : c = 0
      · subst g; exact q
      · rw [if_neg g] at q
        rw [if_pos (by omega)]
        exact q
theorem RowM.fr {kd : Nat → Nat} {tv pl : Nat → Int} {X Y : Nat → Nat → Int} {N i c : Nat} (h : RowM kd tv pl X N i c) (hy : ∀ f k, N ≤ k → k < N + c → Y f k = X f k) : RowM kd tv pl Y N i c := fun k hk => by
  rw [hy 0 _ (by omega) (by omega), hy 1 _ (by omega) (by omega), hy 5 _ (by omega) (by omega), hy 4 _ (by omega) (by omega)]
  exact h k hk
theorem RowM.more {kd : Nat → Nat} {tv pl : Nat → Int} {X Y : Nat → Nat → Int} {N i c : Nat} (h : RowM kd tv pl X N i c) (hy : ∀ f k, N ≤ k → k < N + c → (f = 4 → k + 1 ≠ N + c) → Y f k = X f k) (h6 : 0 < c → Y 4 (N + c - 1) = ((N + c : Nat) : Int)) (g0 : Y 0 (N + c) = 10) (g1 : Y 5 (N + c) = pl (i + c)) (g7 : Y 1 (N + c) = (if kd (i + c) = 24 then -1 else tv (i + c))) (g6 : Y 4 (N + c) = -1) : RowM kd tv pl Y N i (c + 1) := fun k hk => by
  by_cases e : k = c
  · subst e
    refine ⟨g0, g1, g7, ?_⟩
    rw [if_neg (by omega)]; exact g6
  · have z := h k (by omega)
    refine ⟨by rw [hy 0 _ (by omega) (by omega) (by omega)]; exact z.1, by rw [hy 5 _ (by omega) (by omega) (by omega)]; exact z.2.1, by rw [hy 1 _ (by omega) (by omega) (by omega)]; exact z.2.2.1, ?_⟩
    by_cases e2 : k + 1 = c
    · rw [if_pos (by omega)]
      have := h6 (by omega)
      rw [show N + c - 1 = N + k by omega] at this
      rw [this, e2]
    · rw [hy 4 _ (by omega) (by omega) (fun _ => by omega), z.2.2.2, if_pos (by omega), if_pos (by omega)]
section
variable {tp : Nat → Int} {n e A i o N : Nat} {σ : Mem}
def isNm (k : Nat) (bl : Bool) : Prop := k = 2 ∨ (bl = true ∧ k = 24)
theorem s150 (d : Nat) (h : MP tp n e A i o N σ) (hN : N ≤ 2 * i) (hN4 : N + (e - i) ≤ 4000) (bl : Bool) (R T : zK)
    (hR : ∀ j τ, i ≤ j → (∀ k, i ≤ k → k < j → isNm (kdT tp n k) bl) → ¬ isNm (kdT tp n j) bl → MP tp n e A j o (N + (j - i)) τ → YFr A N σ τ → RowM (kdT tp n) (tvT tp n A) (ppT tp n A) (yr τ) (4000 * A + N) i (j - i) → R (if j - i = 0 then -1 else ((4000 * A + N : Nat) : Int)) τ) : zCallD (d + 3) 150 [90, b2i bl] σ R T := by
  have hL := h.lay
  simp only [c_150, b_150, ↓zwq, zpq, zgq, zhq, eq_sto, eq_kill, eq_zSto, eq_mset, eq_zGd, zsq, Int.reduceToNat, List.length_cons, List.length_nil, Nat.reduceAdd, Nat.reduceLT, Nat.reduceEqDiff, Int.reduceLT, Int.reduceLE, Int.reduceEq, Int.reduceNe, Int.reduceNeg, Int.reduceAdd, Int.reduceSub, Int.reduceMul, if_true, if_false, ite_true, ite_false, reduceIte, true_and, and_true, true_implies, forall_const, decide_eq_true_eq, decide_eq_false_iff_not, Bool.not_eq_true', Bool.not_eq_false', Bool.and_eq_true, Bool.or_eq_true, Bool.and_eq_false_iff, Bool.or_eq_false_iff, Bool.not_eq_true, Bool.not_eq_false, Bool.false_eq_true, Bool.true_eq_false, false_implies, implies_true, b2i_ne, b2i_eq, zB_b2i, not_true_eq_false, not_false_eq_true, List.drop_zero, List.drop_succ_cons, zIn_iff, zI8_iff, or_false, false_or, or_true, true_or, and_false, false_and, Decidable.not_not]
  refine lpW (fun m en s => ∃ j, m = e - j ∧ i ≤ j ∧ (∀ k, i ≤ k → k < j → isNm (kdT tp n k) bl) ∧ MP tp n e A j o (N + (j - i)) s ∧ YFr A N σ s ∧ RowM (kdT tp n) (tvT tp n A) (ppT tp n A) (yr s) (4000 * A + N) i (j - i) ∧ en = [(3, 90), (1, b2i bl), (1, if j - i = 0 then -1 else ((4000 * A + N : Nat) : Int)), (1, if j - i = 0 then -1 else ((4000 * A + N + (j - i) - 1 : Nat) : Int)), (0, 0)]) ?_ (e - i) _ _ ⟨i, rfl, Nat.le_refl _, fun k a b => by omega, by rw [Nat.sub_self]; exact h, YFr.rf, fun k hk => by omega, by rw [Nat.sub_self]; rfl⟩
  clear hL
  rintro m en s ⟨j, rfl, hij, hk, hX, hF, hRow, rfl⟩
  have hL := hX.lay
  have hje := hX.2.2.2.2
  have he := hX.1.2.2.1
  have hA := hX.1.1.2.2.1
  have hin2 : (0 : Int) ≤ (j : Int) ∧ (j : Int) < ((2010 : Nat) : Int) := by omega
  have jb : j < 2147483647 := by omega
  by_cases g : isNm (kdT tp n j) bl
  · have hj : j < e := hX.lt (by rcases g with g | g <;> omega)
    have hm : e - (j + 1) < e - j := by omega
    have hN1 : N + (j - i) < 4000 := by omega
    have hk' : ∀ k, i ≤ k → k < j + 1 → isNm (kdT tp n k) bl := fun k a b => by
      by_cases z : k = j
      · rw [z]; exact g
      · exact hk k a (by omega)
    have ec : N + (j - i) + 1 = N + (j + 1 - i) := by omega
    have ec2 : j - i + 1 = j + 1 - i := by omega
    have ec3 : 4000 * A + (N + (j - i)) = 4000 * A + N + (j - i) := by omega
    have hin : (0 : Int) ≤ ((4000 * A + N + (j - i) - 1 : Nat) : Int) ∧ ((4000 * A + N + (j - i) - 1 : Nat) : Int) < ((16000 : Nat) : Int) := by omega
    have ne1 : ¬ j + 1 - i = 0 := by omega
    have l1 : 4000 * A + N + (j + 1 - i) - 1 = 4000 * A + N + (j - i) := by omega
    have hX2 := (hX.addM 10 (if kdT tp n j = 24 then -1 else tvT tp n A j) (-1) (-1) (ppT tp n A j)).next hj
    rw [ec] at hX2
    have hF2 : YFr A (N + (j - i)) s (mset (addM A (N + (j - i)) 10 (if kdT tp n j = 24 then -1 else tvT tp n A j) (-1) (-1) (ppT tp n A j) s) 90 6 ((j + 1 : Nat) : Int)) := (YFr.addM hN1).tr (YFr.at90 (Or.inl rfl)) (Nat.le_refl _)
    have q : ∀ f, yr (mset (addM A (N + (j - i)) 10 (if kdT tp n j = 24 then -1 else tvT tp n A j) (-1) (-1) (ppT tp n A j) s) 90 6 ((j + 1 : Nat) : Int)) f (4000 * A + N + (j - i)) = yr (addM A (N + (j - i)) 10 (if kdT tp n j = 24 then -1 else tvT tp n A j) (-1) (-1) (ppT tp n A j) s) f (4000 * A + (N + (j - i))) := fun f => by
      rw [← ec3]; exact (YFr.at90 (A := A) (N := N + (j - i) + 1) (Or.inl rfl)).2 f _ (Or.inl (by omega))
    have q0 : yr (mset (addM A (N + (j - i)) 10 (if kdT tp n j = 24 then -1 else tvT tp n A j) (-1) (-1) (ppT tp n A j) s) 90 6 ((j + 1 : Nat) : Int)) 0 (4000 * A + N + (j - i)) = 10 := by rw [q, yr_add]; simp
    have q5 : yr (mset (addM A (N + (j - i)) 10 (if kdT tp n j = 24 then -1 else tvT tp n A j) (-1) (-1) (ppT tp n A j) s) 90 6 ((j + 1 : Nat) : Int)) 5 (4000 * A + N + (j - i)) = ppT tp n A (i + (j - i)) := by rw [q, yr_add, Nat.add_sub_cancel' hij]; simp
    have q1 : yr (mset (addM A (N + (j - i)) 10 (if kdT tp n j = 24 then -1 else tvT tp n A j) (-1) (-1) (ppT tp n A j) s) 90 6 ((j + 1 : Nat) : Int)) 1 (4000 * A + N + (j - i)) = (if kdT tp n (i + (j - i)) = 24 then -1 else tvT tp n A (i + (j - i))) := by rw [q, yr_add, Nat.add_sub_cancel' hij]; simp
    have q4 : yr (mset (addM A (N + (j - i)) 10 (if kdT tp n j = 24 then -1 else tvT tp n A j) (-1) (-1) (ppT tp n A j) s) 90 6 ((j + 1 : Nat) : Int)) 4 (4000 * A + N + (j - i)) = -1 := by rw [q, yr_add]; simp
    have body : ∀ (P : zV), (∀ s', MP tp n e A (j + 1) o (N + (j + 1 - i)) s' → YFr A N σ s' → RowM (kdT tp n) (tvT tp n A) (ppT tp n A) (yr s') (4000 * A + N) i (j + 1 - i) → P [(3, 90), (1, b2i bl), (1, ((4000 * A + N : Nat) : Int)), (1, ((4000 * A + N + (j - i) : Nat) : Int)), (0, 0)] s') → (sBlk 4 (sSeq (sSt 1 4 (eCall 144 [(eP (pL 3 0)), (eP (pI 10)), (eP (pIte (kI .eq (p2 oIald (p1 (oGf 6 7 3) (pL 3 0)) (p1 (oGf 6 6 1) (pL 3 0))) (pI 2)) (p2 oIald (p1 (oGf 6 8 3) (pL 3 0)) (p1 (oGf 6 6 1) (pL 3 0))) (pI (-1)))), (eP (pI (-1))), (eP (pI (-1))), (eP (p1 (oGf 6 6 1) (pL 3 0)))]))
        (sSeq (sPfo (eP (pL 3 0)) 6 6 1 oAdd (eP (pI 1)))
        (sSeq (sIfE (cP (k0 .lt (pL 1 2)))
        (sSt 1 2 (eP (pL 1 4)))
        (sSe 1 (eP (p1 (oGf 6 15 3) (pL 3 0))) (eP (pL 1 3)) (eP (pL 1 4))))
        (sSt 1 3 (eP (pL 1 4))))))).1.2 (zCallD (d + 2)) [(3, 90), (1, b2i bl), (1, if j - i = 0 then -1 else ((4000 * A + N : Nat) : Int)), (1, if j - i = 0 then -1 else ((4000 * A + N + (j - i) - 1 : Nat) : Int)), (0, 0)] s P zF zF R T := by
      intro P hP
      have hb := hX.1.2.1 j hje
      have e1 : (if kdT tp n j = 2 then s 95 j else -1) = (if kdT tp n j = 24 then -1 else tvT tp n A j) := by
        rcases g with g | g
        · rw [if_pos g, if_neg (by rw [g]; decide), hb.2.2 (by rw [g]; decide)]
        · rw [if_neg (by rw [g.2]; decide), if_pos g.2]
      simp only [↓zwq, zpq, zgq, zhq, eq_sto, eq_kill, eq_zSto, eq_mset, eq_zGd, zsq, Int.reduceToNat, List.length_cons, List.length_nil, Nat.reduceAdd, Nat.reduceLT, Nat.reduceEqDiff, Int.reduceLT, Int.reduceLE, Int.reduceEq, Int.reduceNe, Int.reduceNeg, Int.reduceAdd, Int.reduceSub, Int.reduceMul, if_true, if_false, ite_true, ite_false, reduceIte, true_and, and_true, true_implies, forall_const, decide_eq_true_eq, decide_eq_false_iff_not, Bool.not_eq_true', Bool.not_eq_false', Bool.and_eq_true, Bool.or_eq_true, Bool.and_eq_false_iff, Bool.or_eq_false_iff, Bool.not_eq_true, Bool.not_eq_false, Bool.false_eq_true, Bool.true_eq_false, false_implies, implies_true, b2i_ne, b2i_eq, zB_b2i, not_true_eq_false, not_false_eq_true, List.drop_zero, List.drop_succ_cons, zIn_iff, zI8_iff, or_false, false_or, or_true, true_or, and_false, false_and, Decidable.not_not, laq hL, hX.2.1, hin2, Int.toNat_natCast, hb.1, klit tp n j, implies_true, e1, s144 (d + 1) hX hN1 hje]
      have hL2 := hX2.lay
      by_cases c0 : j - i = 0
      · have r1 : RowM (kdT tp n) (tvT tp n A) (ppT tp n A) (yr (mset (addM A (N + (j - i)) 10 (if kdT tp n j = 24 then -1 else tvT tp n A j) (-1) (-1) (ppT tp n A j) s) 90 6 ((j + 1 : Nat) : Int))) (4000 * A + N) i (j + 1 - i) := by
          rw [← ec2]
          exact hRow.more (fun f k a b _ => by omega) (fun z => by omega) q0 q5 q1 q4
        have z := hP _ hX2 (hF.tr hF2 (by omega)) r1
        simp only [↓zwq, zpq, zgq, zhq, eq_sto, eq_kill, eq_zSto, eq_mset, eq_zGd, zsq, Int.reduceToNat, List.length_cons, List.length_nil, Nat.reduceAdd, Nat.reduceLT, Nat.reduceEqDiff, Int.reduceLT, Int.reduceLE, Int.reduceEq, Int.reduceNe, Int.reduceNeg, Int.reduceAdd, Int.reduceSub, Int.reduceMul, if_true, if_false, ite_true, ite_false, reduceIte, true_and, and_true, true_implies, forall_const, decide_eq_true_eq, decide_eq_false_iff_not, Bool.not_eq_true', Bool.not_eq_false', Bool.and_eq_true, Bool.or_eq_true, Bool.and_eq_false_iff, Bool.or_eq_false_iff, Bool.not_eq_true, Bool.not_eq_false, Bool.false_eq_true, Bool.true_eq_false, false_implies, implies_true, b2i_ne, b2i_eq, zB_b2i, not_true_eq_false, not_false_eq_true, List.drop_zero, List.drop_succ_cons, zIn_iff, zI8_iff, or_false, false_or, or_true, true_or, and_false, false_and, Decidable.not_not, adq, laq hL, hX.2.1, c0, w32s jb, Nat.add_zero]
        simp only [c0, Nat.add_zero] at z
        exact z
      · have hin' : ¬ ((4000 * A + N : Nat) : Int) < 0 := by omega
        have r1 : RowM (kdT tp n) (tvT tp n A) (ppT tp n A) (yr (mset (mset (addM A (N + (j - i)) 10 (if kdT tp n j = 24 then -1 else tvT tp n A j) (-1) (-1) (ppT tp n A j) s) 90 6 ((j + 1 : Nat) : Int)) 101 (4000 * A + N + (j - i) - 1) ((4000 * A + N + (j - i) : Nat) : Int))) (4000 * A + N) i (j + 1 - i) := by
          rw [← ec2]
          refine hRow.more (fun f k a b z => ?_) (fun _ => ?_) ?_ ?_ ?_ ?_
          · rw [yr_set (f := 4) rfl (by decide), if_neg (fun y => z y.1 (by omega))]; exact hF2.2 f k (Or.inl (by omega))
          · rw [yr_set (f := 4) rfl (by decide), if_pos ⟨rfl, rfl⟩]
          · rw [yr_set (f := 4) rfl (by decide), if_neg (fun y => absurd y.1 (by decide))]; exact q0
          · rw [yr_set (f := 4) rfl (by decide), if_neg (fun y => absurd y.1 (by decide))]; exact q5
          · rw [yr_set (f := 4) rfl (by decide), if_neg (fun y => absurd y.1 (by decide))]; exact q1
          · rw [yr_set (f := 4) rfl (by decide), if_neg (fun y => by omega)]; exact q4
        have z := hP _ (hX2.setn (f := 4) (k := 4000 * A + N + (j - i) - 1) (v := ((4000 * A + N + (j - i) : Nat) : Int)) rfl (by decide)) ((hF.tr hF2 (by omega)).setn (f := 4) rfl (by decide) (by omega) (by omega)) r1
        simp only [↓zwq, zpq, zgq, zhq, eq_sto, eq_kill, eq_zSto, eq_mset, eq_zGd, zsq, Int.reduceToNat, List.length_cons, List.length_nil, Nat.reduceAdd, Nat.reduceLT, Nat.reduceEqDiff, Int.reduceLT, Int.reduceLE, Int.reduceEq, Int.reduceNe, Int.reduceNeg, Int.reduceAdd, Int.reduceSub, Int.reduceMul, if_true, if_false, ite_true, ite_false, reduceIte, true_and, and_true, true_implies, forall_const, decide_eq_true_eq, decide_eq_false_iff_not, Bool.not_eq_true', Bool.not_eq_false', Bool.and_eq_true, Bool.or_eq_true, Bool.and_eq_false_iff, Bool.or_eq_false_iff, Bool.not_eq_true, Bool.not_eq_false, Bool.false_eq_true, Bool.true_eq_false, false_implies, implies_true, b2i_ne, b2i_eq, zB_b2i, not_true_eq_false, not_false_eq_true, List.drop_zero, List.drop_succ_cons, zIn_iff, zI8_iff, or_false, false_or, or_true, true_or, and_false, false_and, Decidable.not_not, adq, laq hL, hX.2.1, c0, w32s jb, hin', hin, Int.toNat_natCast, ec3]
        exact z
    have run : ∀ s1, s1 = s → (sBlk 4 (sSeq (sSt 1 4 (eCall 144 [(eP (pL 3 0)), (eP (pI 10)), (eP (pIte (kI .eq (p2 oIald (p1 (oGf 6 7 3) (pL 3 0)) (p1 (oGf 6 6 1) (pL 3 0))) (pI 2)) (p2 oIald (p1 (oGf 6 8 3) (pL 3 0)) (p1 (oGf 6 6 1) (pL 3 0))) (pI (-1)))), (eP (pI (-1))), (eP (pI (-1))), (eP (p1 (oGf 6 6 1) (pL 3 0)))]))
        (sSeq (sPfo (eP (pL 3 0)) 6 6 1 oAdd (eP (pI 1)))
        (sSeq (sIfE (cP (k0 .lt (pL 1 2)))
        (sSt 1 2 (eP (pL 1 4)))
        (sSe 1 (eP (p1 (oGf 6 15 3) (pL 3 0))) (eP (pL 1 3)) (eP (pL 1 4))))
        (sSt 1 3 (eP (pL 1 4))))))).1.2 (zCallD (d + 2)) [(3, 90), (1, b2i bl), (1, if j - i = 0 then -1 else ((4000 * A + N : Nat) : Int)), (1, if j - i = 0 then -1 else ((4000 * A + N + (j - i) - 1 : Nat) : Int)), (0, 0)] s1 (fun en s' => ∃ m, m < e - j ∧ ∃ j', m = e - j' ∧ i ≤ j' ∧ (∀ k, i ≤ k → k < j' → isNm (kdT tp n k) bl) ∧ MP tp n e A j' o (N + (j' - i)) s' ∧ YFr A N σ s' ∧ RowM (kdT tp n) (tvT tp n A) (ppT tp n A) (yr s') (4000 * A + N) i (j' - i) ∧ en = [(3, 90), (1, b2i bl), (1, if j' - i = 0 then -1 else ((4000 * A + N : Nat) : Int)), (1, if j' - i = 0 then -1 else ((4000 * A + N + (j' - i) - 1 : Nat) : Int)), (0, 0)]) zF zF R T := by
      rintro s1 rfl
      refine body _ (fun s' b1 b2 b3 => ⟨_, hm, j + 1, rfl, Nat.le_succ_of_le hij, hk', b1, b2, b3, ?_⟩)
      rw [if_neg ne1, if_neg ne1, l1]
    have cnd : (cOr (cP (kI .eq (p2 oIald (p1 (oGf 6 7 3) (pL 3 0)) (p1 (oGf 6 6 1) (pL 3 0))) (pI 2))) (cAnd (cP (k0 .ne (pL 1 1))) (c0 .ne (eCall 146 [(eP (pL 3 0)), (eP (pI 95))])))).1.2 (zCallD (d + 2)) [(3, 90), (1, b2i bl), (1, if j - i = 0 then -1 else ((4000 * A + N : Nat) : Int)), (1, if j - i = 0 then -1 else ((4000 * A + N + (j - i) - 1 : Nat) : Int)), (0, 0)] s (fun b s1 => b = true ∧ s1 = s) T := by
      by_cases g2 : kdT tp n j = 2
      · have kk : (((mKd (kdT tp n j) : Nat) : Int) = 2) = True := (klit tp n j).2.2.1.trans (eq_true g2)
        simp only [↓zwq, zpq, zgq, zhq, eq_sto, eq_kill, eq_zSto, eq_mset, eq_zGd, zsq, Int.reduceToNat, List.length_cons, List.length_nil, Nat.reduceAdd, Nat.reduceLT, Nat.reduceEqDiff, Int.reduceLT, Int.reduceLE, Int.reduceEq, Int.reduceNe, Int.reduceNeg, Int.reduceAdd, Int.reduceSub, Int.reduceMul, if_true, if_false, ite_true, ite_false, reduceIte, true_and, and_true, true_implies, forall_const, decide_eq_true_eq, decide_eq_false_iff_not, Bool.not_eq_true', Bool.not_eq_false', Bool.and_eq_true, Bool.or_eq_true, Bool.and_eq_false_iff, Bool.or_eq_false_iff, Bool.not_eq_true, Bool.not_eq_false, Bool.false_eq_true, Bool.true_eq_false, false_implies, implies_true, b2i_ne, b2i_eq, zB_b2i, not_true_eq_false, not_false_eq_true, List.drop_zero, List.drop_succ_cons, zIn_iff, zI8_iff, or_false, false_or, or_true, true_or, and_false, false_and, Decidable.not_not, laq hL, hX.2.1, hin2, Int.toNat_natCast, (hX.1.2.1 j hje).1, kk, decide_true]
      · have g3 := g.resolve_left g2
        have kk : (((mKd (kdT tp n j) : Nat) : Int) = 2) = False := (klit tp n j).2.2.1.trans (eq_false g2)
        have k24 : isSg (kdT tp n j) 95 = true := by rw [g3.2]; decide
        simp only [↓zwq, zpq, zgq, zhq, eq_sto, eq_kill, eq_zSto, eq_mset, eq_zGd, zsq, Int.reduceToNat, List.length_cons, List.length_nil, Nat.reduceAdd, Nat.reduceLT, Nat.reduceEqDiff, Int.reduceLT, Int.reduceLE, Int.reduceEq, Int.reduceNe, Int.reduceNeg, Int.reduceAdd, Int.reduceSub, Int.reduceMul, if_true, if_false, ite_true, ite_false, reduceIte, true_and, and_true, true_implies, forall_const, decide_eq_true_eq, decide_eq_false_iff_not, Bool.not_eq_true', Bool.not_eq_false', Bool.and_eq_true, Bool.or_eq_true, Bool.and_eq_false_iff, Bool.or_eq_false_iff, Bool.not_eq_true, Bool.not_eq_false, Bool.false_eq_true, Bool.true_eq_false, false_implies, implies_true, b2i_ne, b2i_eq, zB_b2i, not_true_eq_false, not_false_eq_true, List.drop_zero, List.drop_succ_cons, zIn_iff, zI8_iff, or_false, false_or, or_true, true_or, and_false, false_and, Decidable.not_not, laq hL, hX.2.1, hin2, Int.toNat_natCast, (hX.1.2.1 j hje).1, kk, g3.1, s146 (d + 1) hX, k24, decide_true, decide_false]
    exact (cOr _ _).2.1 _ _ _ _ (fun b s1 => b = true ∧ s1 = s) _ T T (zCallD_mono _) (fun b s1 hb => ⟨fun _ => (sBlk _ _).2.1 _ _ _ _ _ _ _ _ _ _ _ _ _ _ (zCallD_mono _) (fun _ _ z => z) (fun _ _ z => z.elim) (fun _ _ z => z.elim) (fun _ _ => id) (fun _ _ => id) (run s1 hb.2), fun z => by rw [hb.1] at z; cases z⟩) (fun _ _ => id) cnd
  · have g2 : ¬ kdT tp n j = 2 := fun z => g (Or.inl z)
    have z := hR j s hij hk g hX hF hRow
    cases hbl : bl with
    | false =>
      have kk : (((mKd (kdT tp n j) : Nat) : Int) = 2) = False := (klit tp n j).2.2.1.trans (eq_false g2)
      simp only [↓zwq, zpq, zgq, zhq, eq_sto, eq_kill, eq_zSto, eq_mset, eq_zGd, zsq, Int.reduceToNat, List.length_cons, List.length_nil, Nat.reduceAdd, Nat.reduceLT, Nat.reduceEqDiff, Int.reduceLT, Int.reduceLE, Int.reduceEq, Int.reduceNe, Int.reduceNeg, Int.reduceAdd, Int.reduceSub, Int.reduceMul, if_true, if_false, ite_true, ite_false, reduceIte, true_and, and_true, true_implies, forall_const, decide_eq_true_eq, decide_eq_false_iff_not, Bool.not_eq_true', Bool.not_eq_false', Bool.and_eq_true, Bool.or_eq_true, Bool.and_eq_false_iff, Bool.or_eq_false_iff, Bool.not_eq_true, Bool.not_eq_false, Bool.false_eq_true, Bool.true_eq_false, false_implies, implies_true, b2i_ne, b2i_eq, zB_b2i, not_true_eq_false, not_false_eq_true, List.drop_zero, List.drop_succ_cons, zIn_iff, zI8_iff, or_false, false_or, or_true, true_or, and_false, false_and, Decidable.not_not, laq hL, hX.2.1, hin2, Int.toNat_natCast, (hX.1.2.1 j hje).1, kk]
      exact z
    | true =>
      have g24 : ¬ kdT tp n j = 24 := fun z => g (Or.inr ⟨hbl, z⟩)
      have kk : (((mKd (kdT tp n j) : Nat) : Int) = 2) = False := (klit tp n j).2.2.1.trans (eq_false g2)
      have k24 : isSg (kdT tp n j) 95 = false := by rw [(slit tp n j).2.2.2.2.2.2.2.2.2.2.2.2.2.2.2]; exact decide_eq_false g24
      simp only [↓zwq, zpq, zgq, zhq, eq_sto, eq_kill, eq_zSto, eq_mset, eq_zGd, zsq, Int.reduceToNat, List.length_cons, List.length_nil, Nat.reduceAdd, Nat.reduceLT, Nat.reduceEqDiff, Int.reduceLT, Int.reduceLE, Int.reduceEq, Int.reduceNe, Int.reduceNeg, Int.reduceAdd, Int.reduceSub, Int.reduceMul, if_true, if_false, ite_true, ite_false, reduceIte, true_and, and_true, true_implies, forall_const, decide_eq_true_eq, decide_eq_false_iff_not, Bool.not_eq_true', Bool.not_eq_false', Bool.and_eq_true, Bool.or_eq_true, Bool.and_eq_false_iff, Bool.or_eq_false_iff, Bool.not_eq_true, Bool.not_eq_false, Bool.false_eq_true, Bool.true_eq_false, false_implies, implies_true, b2i_ne, b2i_eq, zB_b2i, not_true_eq_false, not_false_eq_true, List.drop_zero, List.drop_succ_cons, zIn_iff, zI8_iff, or_false, false_or, or_true, true_or, and_false, false_and, Decidable.not_not, laq hL, hX.2.1, hin2, Int.toNat_natCast, (hX.1.2.1 j hje).1, kk, s146 (d + 1) hX, k24]
      exact z
end
