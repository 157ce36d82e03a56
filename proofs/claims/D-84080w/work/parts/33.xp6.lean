/-! LazyForms' reader: uses -/
section
variable {tp : Nat → Int} {n e tr pr i o N : Nat} {ml : Nat → List (List Int)} {mk : Nat → Int} {σ : Mem} {E : Nat → Rs}
theorem s58 (d D0 F : Nat) (hF : e ≤ F) (hM : HMk tp n e tr pr ml mk) (hE : HEx tp n e tr pr ml mk D0 o E) (hd : D0 ≤ d + 8) (hml : ∀ k, k < e → kdT tp n k ≠ 3 → ml (k + 1) = ml k) (h : XP tp n e tr pr ml i o N σ) (hN : N ≤ 2 * i) (R T : zK)
    (hR : xRes tp n e tr pr ml mk i o N σ 0 R T (pUse (kdT tp n) F E i)) : zCallD (d + 10) 58 [7] σ R T := by
  have hL := h.lay
  have ht := h.1.2.2.2.2.2.1
  have hie := h.2.2.2.2.1
  have he := h.1.2.2.1
  have hin0 : (0 : Int) ≤ (i : Int) ∧ (i : Int) < ((2002 : Nat) : Int) := by omega
  simp only [c_58, b_58, ↓zwq, zpq, zgq, zhq, eq_sto, eq_kill, eq_zSto, eq_mset, eq_zGd, zsq, Int.reduceToNat, List.length_cons, List.length_nil, Nat.reduceAdd, Nat.reduceLT, Nat.reduceEqDiff, Int.reduceLT, Int.reduceLE, Int.reduceEq, Int.reduceNe, Int.reduceNeg, Int.reduceAdd, Int.reduceSub, Int.reduceMul, if_true, if_false, ite_true, ite_false, reduceIte, true_and, and_true, true_implies, forall_const, decide_eq_true_eq, decide_eq_false_iff_not, Bool.not_eq_true', Bool.not_eq_false', Bool.and_eq_true, Bool.or_eq_true, Bool.and_eq_false_iff, Bool.or_eq_false_iff, Bool.not_eq_true, Bool.not_eq_false, Bool.false_eq_true, Bool.true_eq_false, false_implies, implies_true, b2i_ne, b2i_eq, zB_b2i, not_true_eq_false, not_false_eq_true, List.drop_zero, List.drop_succ_cons, zIn_iff, zI8_iff, or_false, false_or, or_true, true_or, and_false, false_and, Decidable.not_not, laq hL, h.2.1, s36 (d + 8) h, nlit]
  refine s59 d D0 hM hE hd hml h hN _ _ ?_
  unfold pUse pBd at hR
  cases hq : pAtom (kdT tp n) E i with
  | error x => rw [hq] at hR; exact hR
  | ok x =>
    obtain ⟨t, j⟩ := x
    rw [hq] at hR
    intro m N1 τ x1 x2 x3 xl x4 x5 x6
    dsimp only at hR
    have hje := x1.2.2.2.2.1
    obtain ⟨F', rfl⟩ : ∃ f, F = f + 1 := ⟨F - 1, by omega⟩
    have hL1 := x1.lay
    have hN1 : N1 < 4096 := by omega
    have hinm : (0 : Int) ≤ (m : Int) ∧ (m : Int) < ((4096 : Nat) : Int) := by omega
    refine zLpW_in (zCallD_mono _) ?_
    unfold pArgs at hR
    cases hk : isAt (kdT tp n j) with
    | false =>
      rw [hk, if_neg (by decide)] at hR
      simp only [↓zwq, zpq, zgq, zhq, eq_sto, eq_kill, eq_zSto, eq_mset, eq_zGd, zsq, Int.reduceToNat, List.length_cons, List.length_nil, Nat.reduceAdd, Nat.reduceLT, Nat.reduceEqDiff, Int.reduceLT, Int.reduceLE, Int.reduceEq, Int.reduceNe, Int.reduceNeg, Int.reduceAdd, Int.reduceSub, Int.reduceMul, if_true, if_false, ite_true, ite_false, reduceIte, true_and, and_true, true_implies, forall_const, decide_eq_true_eq, decide_eq_false_iff_not, Bool.not_eq_true', Bool.not_eq_false', Bool.and_eq_true, Bool.or_eq_true, Bool.and_eq_false_iff, Bool.or_eq_false_iff, Bool.not_eq_true, Bool.not_eq_false, Bool.false_eq_true, Bool.true_eq_false, false_implies, implies_true, b2i_ne, b2i_eq, zB_b2i, not_true_eq_false, not_false_eq_true, List.drop_zero, List.drop_succ_cons, zIn_iff, zI8_iff, or_false, false_or, or_true, true_or, and_false, false_and, Decidable.not_not, s48 (d + 7) x1, hk]
      exact hR m N1 τ x1 x2 x3 xl x4 (by omega) x6
    | true =>
      rw [hk, if_pos rfl] at hR
      have hin1 : (0 : Int) ≤ (j : Int) ∧ (j : Int) < ((2002 : Nat) : Int) := by omega
      simp only [↓zwq, zpq, zgq, zhq, eq_sto, eq_kill, eq_zSto, eq_mset, eq_zGd, zsq, Int.reduceToNat, List.length_cons, List.length_nil, Nat.reduceAdd, Nat.reduceLT, Nat.reduceEqDiff, Int.reduceLT, Int.reduceLE, Int.reduceEq, Int.reduceNe, Int.reduceNeg, Int.reduceAdd, Int.reduceSub, Int.reduceMul, if_true, if_false, ite_true, ite_false, reduceIte, true_and, and_true, true_implies, forall_const, decide_eq_true_eq, decide_eq_false_iff_not, Bool.not_eq_true', Bool.not_eq_false', Bool.and_eq_true, Bool.or_eq_true, Bool.and_eq_false_iff, Bool.or_eq_false_iff, Bool.not_eq_true, Bool.not_eq_false, Bool.false_eq_true, Bool.true_eq_false, false_implies, implies_true, b2i_ne, b2i_eq, zB_b2i, not_true_eq_false, not_false_eq_true, List.drop_zero, List.drop_succ_cons, zIn_iff, zI8_iff, or_false, false_or, or_true, true_or, and_false, false_and, Decidable.not_not, s48 (d + 7) x1, hk, laq hL1, x1.2.1]
      refine s59 d D0 hM hE hd hml x1 (by omega) _ _ ?_
      unfold pBd at hR
      cases hq2 : pAtom (kdT tp n) E j with
      | error x => rw [hq2] at hR; exact fun υ hυ => hR υ (hυ.pre x2)
      | ok x =>
        obtain ⟨t2, j2⟩ := x
        rw [hq2] at hR
        intro m2 N2 υ y1 y2 y3 yl y4 y5 y6
        dsimp only at hR
        have hj2 := y1.2.2.2.2.1
        have hL2 := y1.lay
        have hN2 : N2 < 4096 := by omega
        have hA := y1.addN 9 (plT tp n j) (m2 : Int) 0 0
        have w1 : w32 (0 + 1) = ((1 : Nat) : Int) := by decide
        simp only [↓zwq, zpq, zgq, zhq, eq_sto, eq_kill, eq_zSto, eq_mset, eq_zGd, zsq, Int.reduceToNat, List.length_cons, List.length_nil, Nat.reduceAdd, Nat.reduceLT, Nat.reduceEqDiff, Int.reduceLT, Int.reduceLE, Int.reduceEq, Int.reduceNe, Int.reduceNeg, Int.reduceAdd, Int.reduceSub, Int.reduceMul, if_true, if_false, ite_true, ite_false, reduceIte, true_and, and_true, true_implies, forall_const, decide_eq_true_eq, decide_eq_false_iff_not, Bool.not_eq_true', Bool.not_eq_false', Bool.and_eq_true, Bool.or_eq_true, Bool.and_eq_false_iff, Bool.or_eq_false_iff, Bool.not_eq_true, Bool.not_eq_false, Bool.false_eq_true, Bool.true_eq_false, false_implies, implies_true, b2i_ne, b2i_eq, zB_b2i, not_true_eq_false, not_false_eq_true, List.drop_zero, List.drop_succ_cons, zIn_iff, zI8_iff, or_false, false_or, or_true, true_or, and_false, false_and, Decidable.not_not, laq hL2, y1.1.2.2.2.1, Int.toNat_natCast, y1.1.2.1 j (show j ≤ e by omega), hin1, trs ht, s30 (d + 8) hL2 ht y1.2.2.2.1 hN2, w1]
        clear w1
        refine xArgs d D0 hM hE hd hml _ _ _ R T _ _ F' j2 (N2 + 1) 1 N2 _ (by omega) hA (by omega) (Nat.lt_succ_self _) (by unfold Is; rw [xr_add]; simp) (by omega) ?_
        cases hq3 : pArgs (kdT tp n) E F' j2 with
        | error x => rw [hq3] at hR; exact fun ρ hρ => hR ρ (XErr.pre x2 (XErr.pre y2 (XErr.pre XFr.addN hρ)))
        | ok x =>
          obtain ⟨as, k⟩ := x
          rw [hq3] at hR
          intro v la N' ρ z1 z2 z3 z4 z5 z6 z7
          have hL3 := z1.lay
          have hke := z1.2.2.2.2.1
          have hN' : N' < 4096 := by omega
          -- the rows since
          have fr2 : XFr tr N2 υ ρ := (XFr.addN (f := 9) (w := plT tp n j) (x := (m2 : Int)) (y := 0) (z := 0)).tr (z2.lo (Nat.le_refl _) (by omega)) (Nat.le_refl _)
          have fr1 : XFr tr N1 τ ρ := y2.tr fr2 yl
          have fr0 : XFr tr N σ ρ := x2.tr fr1 xl
          have hlist : rX (kdT tp n) (plT tp n) (vlT tp n) mk (xr ρ tr) N1 N' (.append (nd 11 j t2 .nil) as) (N2 : Int) := by
            refine ⟨N2, rfl, yl, by omega, ?_, ?_⟩
            · refine rX_el (lo := N1) (hi := N2 + 1) (X := xr (addN tr N2 9 (plT tp n j) (m2 : Int) 0 0 υ) tr) (Or.inr (Or.inr (Or.inr rfl))) (Nat.le_refl _) (by omega) (fun f k a b c => z2.2 f k (by omega) c) ?_
              refine ⟨N2, rfl, yl, Nat.lt_succ_self _, ?_⟩
              simp only [xr_add]
              simp
              refine rX_up _ _ _ _ _ _ (Nat.le_refl _) (Nat.le_refl _) (fun f k a b => ?_) y6
              rw [xr_add, if_neg (by omega)]
            · rw [show xr ρ tr 6 N2 = v from z3]
              exact rX_up _ _ _ _ _ _ (by omega) (Nat.le_refl _) (fun f k a b => rfl) z7
          have hnz : ((1 + fLen as : Nat) = 0) = False := eq_false (by omega)
          have elen : 1 + fLen as = fLen (.append (nd 11 j t2 .nil) as) := by show _ = fLen as + 1; omega
          dsimp only at hR
          by_cases k3 : kdT tp n i = 3
          · rw [if_pos k3] at hR
            have ha : pAtom (kdT tp n) E i = .ok (nd 2 i .nil .nil, i + 1) := by
              unfold pAtom; rw [if_neg (by rw [k3]; decide), if_neg (by rw [k3]; decide), if_pos k3]
            rw [ha] at hq
            cases hq
            have hdone : rX (kdT tp n) (plT tp n) (vlT tp n) mk (xr (mset (mset ρ (tr + 4) m (N2 : Int)) (tr + 5) m ((1 + fLen as : Nat) : Int)) tr) N N' (nd 2 i (.append (nd 11 (i + 1) t2 .nil) as) .nil) (m : Int) := by
              obtain ⟨m', em, q1, q2, c0, c1, -, -, c2, -⟩ := x6
              cases Int.ofNat.inj em
              have xe : ∀ f g, xr (mset (mset ρ (tr + 4) m (N2 : Int)) (tr + 5) m ((1 + fLen as : Nat) : Int)) tr f g = if f = 4 ∧ g = m then ((1 + fLen as : Nat) : Int) else if f = 3 ∧ g = m then (N2 : Int) else xr ρ tr f g := fun f g => by
                rw [xr_set (f := 4) rfl (by decide), xr_set (f := 3) rfl (by decide)]
              refine ⟨m, rfl, q1, Nat.lt_of_lt_of_le q2 (by omega), ?_⟩
              simp only [xe, fr1.2 _ m q2]
              refine ⟨c0, fun _ => c1 (by decide), fun z => absurd z (by decide), fun z => absurd z (by decide), fun _ => ⟨(c2 rfl).1, ?_, ?_⟩, fun z => absurd z (by decide), fun z => absurd z (by decide), fun z => absurd z (by decide), fun z => absurd z (by decide), fun z => absurd z (by decide), fun z => absurd z (by decide), fun z => absurd z (by decide), fun z => absurd z (by decide)⟩
              · rw [if_neg (fun z => absurd z.1 (by decide)), if_pos (by decide)]
                exact rX_up _ _ _ _ _ _ xl (Nat.le_refl _) (fun f k a b => by rw [xe, if_neg (by omega), if_neg (by omega)]) hlist
              · rw [if_pos (by decide), elen]
            have hX4 : XP tp n e tr pr ml k o N' (mset (mset ρ (tr + 4) m (N2 : Int)) (tr + 5) m ((1 + fLen as : Nat) : Int)) := (z1.setn (f := 3) rfl (by decide)).setn (f := 4) rfl (by decide)
            have hNm : N ≤ m := by obtain ⟨m', em, q1, -⟩ := x6; cases Int.ofNat.inj em; exact q1
            have fr4 : XFr tr N σ (mset (mset ρ (tr + 4) m (N2 : Int)) (tr + 5) m ((1 + fLen as : Nat) : Int)) := (fr0.setn (f := 3) rfl (by decide) hNm).setn (f := 4) rfl (by decide) hNm
            have t74 : (7 = tr + 4) = False := eq_false (by rcases ht with z | z | z | z <;> omega)
            simp only [↓zwq, zpq, zgq, zhq, eq_sto, eq_kill, eq_zSto, eq_mset, eq_zGd, zsq, Int.reduceToNat, List.length_cons, List.length_nil, Nat.reduceAdd, Nat.reduceLT, Nat.reduceEqDiff, Int.reduceLT, Int.reduceLE, Int.reduceEq, Int.reduceNe, Int.reduceNeg, Int.reduceAdd, Int.reduceSub, Int.reduceMul, if_true, if_false, ite_true, ite_false, reduceIte, true_and, and_true, true_implies, forall_const, decide_eq_true_eq, decide_eq_false_iff_not, Bool.not_eq_true', Bool.not_eq_false', Bool.and_eq_true, Bool.or_eq_true, Bool.and_eq_false_iff, Bool.or_eq_false_iff, Bool.not_eq_true, Bool.not_eq_false, Bool.false_eq_true, Bool.true_eq_false, false_implies, implies_true, b2i_ne, b2i_eq, zB_b2i, not_true_eq_false, not_false_eq_true, List.drop_zero, List.drop_succ_cons, zIn_iff, zI8_iff, or_false, false_or, or_true, true_or, and_false, false_and, Decidable.not_not, nlit, hnz, k3, b2i, decide_true, laq hL3, z1.1.2.2.2.1, Int.toNat_natCast, trq hL3 ht, trs ht, hinm, t74]
            exact hR m N' _ hX4 fr4 (by omega) (by omega) (by omega) (by omega) hdone
          · rw [if_neg k3] at hR
            have hA2 := z1.addN 3 (plT tp n i) (m : Int) (N2 : Int) ((1 + fLen as : Nat) : Int)
            simp only [↓zwq, zpq, zgq, zhq, eq_sto, eq_kill, eq_zSto, eq_mset, eq_zGd, zsq, Int.reduceToNat, List.length_cons, List.length_nil, Nat.reduceAdd, Nat.reduceLT, Nat.reduceEqDiff, Int.reduceLT, Int.reduceLE, Int.reduceEq, Int.reduceNe, Int.reduceNeg, Int.reduceAdd, Int.reduceSub, Int.reduceMul, if_true, if_false, ite_true, ite_false, reduceIte, true_and, and_true, true_implies, forall_const, decide_eq_true_eq, decide_eq_false_iff_not, Bool.not_eq_true', Bool.not_eq_false', Bool.and_eq_true, Bool.or_eq_true, Bool.and_eq_false_iff, Bool.or_eq_false_iff, Bool.not_eq_true, Bool.not_eq_false, Bool.false_eq_true, Bool.true_eq_false, false_implies, implies_true, b2i_ne, b2i_eq, zB_b2i, not_true_eq_false, not_false_eq_true, List.drop_zero, List.drop_succ_cons, zIn_iff, zI8_iff, or_false, false_or, or_true, true_or, and_false, false_and, Decidable.not_not, nlit, hnz, k3, b2i, decide_false, laq hL3, z1.1.2.2.2.1, Int.toNat_natCast, trs ht, z1.1.2.1 i hie, hin0, s30 (d + 8) hL3 ht z1.2.2.2.1 hN']
            refine hR N' (N' + 1) _ hA2 (fr0.tr XFr.addN (by omega)) (by omega) (by omega) (Nat.lt_succ_self _) (by omega) ?_
            refine ⟨N', rfl, by omega, Nat.lt_succ_self _, ?_⟩
            simp only [xr_add]
            simp [elen]
            refine ⟨rX_up _ _ _ _ _ _ (Nat.le_refl _) (by omega) (fun f k a b => ?_) x6, rX_up _ _ _ _ _ _ xl (by omega) (fun f k a b => ?_) hlist⟩
            · rw [xr_add, if_neg (by omega)]; exact fr1.2 f k b
            · rw [xr_add, if_neg (by omega)]
end
