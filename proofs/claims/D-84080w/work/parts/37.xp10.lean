/-! LazyForms' reader: lets -/
section
variable {tp : Nat → Int} {n e tr pr i o N : Nat} {ml : Nat → List (List Int)} {mk : Nat → Int} {σ : Mem} {E : Nat → Rs}
theorem xBinds (d D0 F : Nat) (hF : e ≤ F) (hE : HEx tp n e tr pr ml mk D0 o E) (hd : D0 ≤ d + 8) (hml : ∀ k, k < e → kdT tp n k ≠ 3 → ml (k + 1) = ml k) (c1v : zTV) (fi : Int) (R T : zK) (K : zV) :
    ∀ (f j N l : Nat) (σ : Mem), e - j ≤ f → XP tp n e tr pr ml j o N σ → N ≤ 2 * j → l < N → Is (xr σ tr 6 l) (-1) →
    (match (if kdT tp n j = 13 then pBs (kdT tp n) F E f (j + 1) else .ok (.nil, j)) with
      | .ok (as, k) => ∀ (v : Int) (la N' : Nat) (τ : Mem), XP tp n e tr pr ml k o N' τ → XFl tr N l σ τ → Is (xr τ tr 6 l) v → N ≤ N' → N' + 2 * j ≤ N + 2 * k → j ≤ k → rX (kdT tp n) (plT tp n) (vlT tp n) mk (xr τ tr) N N' as v → kdT tp n k ≠ 13 → K [(3, 7), c1v, (1, fi), (1, (la : Int)), (0, 0)] τ
      | .error (f, k) => ∀ τ, XErr tp n tr f k σ τ → T 13 τ) →
    zLpW (c0 .ne (eCall 37 [(eP (pL 3 0)), (eP (pI 13))])) (sBlk 4 (sSeq (sIf (cNot (c0 .ne (eCall 36 [(eP (pL 3 0)), (eP (pI 2))])))
  (sCall 38 [(eP (pL 3 0)), (eP (pI 1))]))
  (sSeq (sSt 1 4 (eCall 44 [(eP (pL 3 0))]))
  (sSeq (sSe 1 (eP (p1 (oGf 5 6 3) (p1 (oGf 2 2 3) (pL 3 0)))) (eP (pL 1 3)) (eP (pL 1 4)))
  (sSt 1 3 (eP (pL 1 4))))))) sSkip (zCallD (d + 9)) [(3, 7), c1v, (1, fi), (1, (l : Int)), (0, 0)] σ K R T := by
  intro f
  induction f with
  | zero =>
    intro j N l σ hf h hN hl h6 hR
    have hje := h.2.2.2.2.1
    have hk : ¬ kdT tp n j = 13 := by
      have := h.1.2.2.2.2.2.2.2.1
      rw [show j = e by omega]; omega
    rw [if_neg hk] at hR
    refine zLpW_in (zCallD_mono _) ?_
    simp only [↓zwq, zpq, zgq, zhq, eq_sto, eq_kill, eq_zSto, eq_mset, eq_zGd, zsq, Int.reduceToNat, List.length_cons, List.length_nil, Nat.reduceAdd, Nat.reduceLT, Nat.reduceEqDiff, Int.reduceLT, Int.reduceLE, Int.reduceEq, Int.reduceNe, Int.reduceNeg, Int.reduceAdd, Int.reduceSub, Int.reduceMul, if_true, if_false, ite_true, ite_false, reduceIte, true_and, and_true, true_implies, forall_const, decide_eq_true_eq, decide_eq_false_iff_not, Bool.not_eq_true', Bool.not_eq_false', Bool.and_eq_true, Bool.or_eq_true, Bool.and_eq_false_iff, Bool.or_eq_false_iff, Bool.not_eq_true, Bool.not_eq_false, Bool.false_eq_true, Bool.true_eq_false, false_implies, implies_true, b2i_ne, b2i_eq, zB_b2i, not_true_eq_false, not_false_eq_true, List.drop_zero, List.drop_succ_cons, zIn_iff, zI8_iff, or_false, false_or, or_true, true_or, and_false, false_and, Decidable.not_not, s37 (d + 7) h, nlit, hk]
    exact hR (-1) l N σ h (XFl.of XFr.rf) h6 (Nat.le_refl _) (by omega) (Nat.le_refl _) rfl hk
  | succ f ih =>
    intro j N l σ hf h hN hl h6 hR
    have hL := h.lay
    have ht := h.1.2.2.2.2.2.1
    have hje := h.2.2.2.2.1
    have he := h.1.2.2.1
    have hin2 : (0 : Int) ≤ (l : Int) ∧ (l : Int) < ((4096 : Nat) : Int) := by omega
    refine zLpW_in (zCallD_mono _) ?_
    by_cases hk : kdT tp n j = 13
    · rw [if_pos hk] at hR
      have hj := h.lt (by rw [hk]; decide)
      have hX := h.next hj (hml j hj (by rw [hk]; decide))
      have fx : XFr tr N σ (mset σ 7 4 ((j + 1 : Nat) : Int)) := XFr.at7 ht (Or.inl rfl)
      unfold pBs pTo at hR
      by_cases k2 : kdT tp n (j + 1) = 2
      · rw [if_pos k2] at hR
        simp only [↓zwq, zpq, zgq, zhq, eq_sto, eq_kill, eq_zSto, eq_mset, eq_zGd, zsq, Int.reduceToNat, List.length_cons, List.length_nil, Nat.reduceAdd, Nat.reduceLT, Nat.reduceEqDiff, Int.reduceLT, Int.reduceLE, Int.reduceEq, Int.reduceNe, Int.reduceNeg, Int.reduceAdd, Int.reduceSub, Int.reduceMul, if_true, if_false, ite_true, ite_false, reduceIte, true_and, and_true, true_implies, forall_const, decide_eq_true_eq, decide_eq_false_iff_not, Bool.not_eq_true', Bool.not_eq_false', Bool.and_eq_true, Bool.or_eq_true, Bool.and_eq_false_iff, Bool.or_eq_false_iff, Bool.not_eq_true, Bool.not_eq_false, Bool.false_eq_true, Bool.true_eq_false, false_implies, implies_true, b2i_ne, b2i_eq, zB_b2i, not_true_eq_false, not_false_eq_true, List.drop_zero, List.drop_succ_cons, zIn_iff, zI8_iff, or_false, false_or, or_true, true_or, and_false, false_and, Decidable.not_not, s37 (d + 7) h, nlit, hk, s36 (d + 8) hX, k2, b2i]
        refine s44 d D0 F hF hE hd hml hX k2 (by omega) _ _ ?_
        unfold pBd at hR
        cases hq : pBind (kdT tp n) F E (j + 1) with
        | error x => rw [hq] at hR; exact fun υ hυ => hR υ (XErr.pre fx hυ)
        | ok x =>
          obtain ⟨t, j2⟩ := x
          rw [hq] at hR
          obtain ⟨ta, tb, rfl⟩ := pBind_nd hq
          intro m N1 τ x1 x2 x3 xl x4 x5 x6 x7
          dsimp only at hR
          have hj2 := x1.2.2.2.2.1
          have hL1 := x1.lay
          simp only [↓zwq, zpq, zgq, zhq, eq_sto, eq_kill, eq_zSto, eq_mset, eq_zGd, zsq, Int.reduceToNat, List.length_cons, List.length_nil, Nat.reduceAdd, Nat.reduceLT, Nat.reduceEqDiff, Int.reduceLT, Int.reduceLE, Int.reduceEq, Int.reduceNe, Int.reduceNeg, Int.reduceAdd, Int.reduceSub, Int.reduceMul, if_true, if_false, ite_true, ite_false, reduceIte, true_and, and_true, true_implies, forall_const, decide_eq_true_eq, decide_eq_false_iff_not, Bool.not_eq_true', Bool.not_eq_false', Bool.and_eq_true, Bool.or_eq_true, Bool.and_eq_false_iff, Bool.or_eq_false_iff, Bool.not_eq_true, Bool.not_eq_false, Bool.false_eq_true, Bool.true_eq_false, false_implies, implies_true, b2i_ne, b2i_eq, zB_b2i, not_true_eq_false, not_false_eq_true, List.drop_zero, List.drop_succ_cons, zIn_iff, zI8_iff, or_false, false_or, or_true, true_or, and_false, false_and, Decidable.not_not, laq hL1, x1.1.2.2.2.1, Int.toNat_natCast, trq hL1 ht, trs ht, hin2]
          have fr1 : XFr tr N σ τ := fx.tr x2 (Nat.le_refl _)
          have hX3 : XP tp n e tr pr ml j2 o N1 (mset τ (tr + 7) l (m : Int)) := x1.setn (f := 6) rfl (by decide)
          have fL : XFl tr N l σ (mset τ (tr + 7) l (m : Int)) := by
            refine ⟨fr1.1.set (by simp [wP]), fun f k hk' hne => ?_⟩
            rw [xr_set (f := 6) rfl (by decide), if_neg hne]
            exact fr1.2 f k hk'
          refine ih j2 N1 m _ (by omega) hX3 (by omega) x4 ?_ ?_
          · unfold Is; rw [xr_set (f := 6) rfl (by decide), if_neg (by omega)]; exact x7
          · have fin : ∀ (as : Fm) (k : Nat) (v : Int) (la N' : Nat) (υ : Mem), (∀ (v : Int) (la N' : Nat) (τ : Mem), XP tp n e tr pr ml k o N' τ → XFl tr N l σ τ → Is (xr τ tr 6 l) v → N ≤ N' → N' + 2 * j ≤ N + 2 * k → j ≤ k → rX (kdT tp n) (plT tp n) (vlT tp n) mk (xr τ tr) N N' (.append (nd 6 (j + 1) ta tb) as) v → kdT tp n k ≠ 13 → K [(3, 7), c1v, (1, fi), (1, (la : Int)), (0, 0)] τ) → XP tp n e tr pr ml k o N' υ → XFl tr N1 m (mset τ (tr + 7) l (m : Int)) υ → Is (xr υ tr 6 m) v → N1 ≤ N' → N' + 2 * j2 ≤ N1 + 2 * k → j2 ≤ k → rX (kdT tp n) (plT tp n) (vlT tp n) mk (xr υ tr) N1 N' as v → kdT tp n k ≠ 13 → K [(3, 7), c1v, (1, fi), (1, (la : Int)), (0, 0)] υ := by
              intro as k v la N' υ hfin y1 y2 y3 y4 y5 y6 y7 y8
              refine hfin (m : Int) la N' υ y1 ⟨fL.1.tr y2.1, fun f k a b => (y2.2 f k (by omega) (by omega)).trans (fL.2 f k a b)⟩ ?_ (by omega) (by omega) (by omega) ?_ y8
              · unfold Is; rw [y2.2 6 l (by omega) (by omega), xr_set (f := 6) rfl (by decide), if_pos ⟨rfl, rfl⟩]
              · refine ⟨m, rfl, xl, by omega, ?_, ?_⟩
                · refine rX_el (lo := N) (hi := N1) (X := xr τ tr) (Or.inl rfl) (Nat.le_refl _) (by omega) (fun f k a b c => ?_) x6
                  rw [y2.2 f k b c, xr_set (f := 6) rfl (by decide), if_neg (by omega)]
                · rw [show xr υ tr 6 m = v from y3]
                  exact rX_up _ _ _ _ _ _ (by omega) (Nat.le_refl _) (fun f k a b => rfl) y7
            by_cases hk2 : kdT tp n j2 = 13
            · rw [if_pos hk2] at hR ⊢
              cases hq2 : pBs (kdT tp n) F E f (j2 + 1) with
              | error x => rw [hq2] at hR; exact fun υ hυ => hR υ ⟨fL.1.tr hυ.1, hυ.2⟩
              | ok x =>
                obtain ⟨as, k⟩ := x
                rw [hq2] at hR
                exact fun v la N' υ y1 y2 y3 y4 y5 y6 y7 y8 => fin as k v la N' υ hR y1 y2 y3 y4 y5 y6 y7 y8
            · rw [if_neg hk2] at hR ⊢
              exact fun v la N' υ y1 y2 y3 y4 y5 y6 y7 y8 => fin .nil j2 v la N' υ hR y1 y2 y3 y4 y5 y6 y7 y8
      · rw [if_neg k2] at hR
        simp only [↓zwq, zpq, zgq, zhq, eq_sto, eq_kill, eq_zSto, eq_mset, eq_zGd, zsq, Int.reduceToNat, List.length_cons, List.length_nil, Nat.reduceAdd, Nat.reduceLT, Nat.reduceEqDiff, Int.reduceLT, Int.reduceLE, Int.reduceEq, Int.reduceNe, Int.reduceNeg, Int.reduceAdd, Int.reduceSub, Int.reduceMul, if_true, if_false, ite_true, ite_false, reduceIte, true_and, and_true, true_implies, forall_const, decide_eq_true_eq, decide_eq_false_iff_not, Bool.not_eq_true', Bool.not_eq_false', Bool.and_eq_true, Bool.or_eq_true, Bool.and_eq_false_iff, Bool.or_eq_false_iff, Bool.not_eq_true, Bool.not_eq_false, Bool.false_eq_true, Bool.true_eq_false, false_implies, implies_true, b2i_ne, b2i_eq, zB_b2i, not_true_eq_false, not_false_eq_true, List.drop_zero, List.drop_succ_cons, zIn_iff, zI8_iff, or_false, false_or, or_true, true_or, and_false, false_and, Decidable.not_not, s37 (d + 7) h, nlit, hk, s36 (d + 8) hX, k2, b2i, s38 (d + 8) hX]
        exact hR _ (XErr.pre fx (XErr.of hX 1))
    · rw [if_neg hk] at hR
      simp only [↓zwq, zpq, zgq, zhq, eq_sto, eq_kill, eq_zSto, eq_mset, eq_zGd, zsq, Int.reduceToNat, List.length_cons, List.length_nil, Nat.reduceAdd, Nat.reduceLT, Nat.reduceEqDiff, Int.reduceLT, Int.reduceLE, Int.reduceEq, Int.reduceNe, Int.reduceNeg, Int.reduceAdd, Int.reduceSub, Int.reduceMul, if_true, if_false, ite_true, ite_false, reduceIte, true_and, and_true, true_implies, forall_const, decide_eq_true_eq, decide_eq_false_iff_not, Bool.not_eq_true', Bool.not_eq_false', Bool.and_eq_true, Bool.or_eq_true, Bool.and_eq_false_iff, Bool.or_eq_false_iff, Bool.not_eq_true, Bool.not_eq_false, Bool.false_eq_true, Bool.true_eq_false, false_implies, implies_true, b2i_ne, b2i_eq, zB_b2i, not_true_eq_false, not_false_eq_true, List.drop_zero, List.drop_succ_cons, zIn_iff, zI8_iff, or_false, false_or, or_true, true_or, and_false, false_and, Decidable.not_not, s37 (d + 7) h, nlit, hk]
      exact hR (-1) l N σ h (XFl.of XFr.rf) h6 (Nat.le_refl _) (by omega) (Nat.le_refl _) rfl hk
theorem s51 (d D0 F : Nat) (hF : e ≤ F) (hE : HEx tp n e tr pr ml mk D0 o E) (hd : D0 ≤ d + 8) (hml : ∀ k, k < e → kdT tp n k ≠ 3 → ml (k + 1) = ml k) (h : XP tp n e tr pr ml i o N σ) (hk : kdT tp n i = 5) (hN : N ≤ 2 * i) (R T : zK)
    (hR : xRes tp n e tr pr ml mk i o N σ 0 R T (pLet (kdT tp n) F E i)) : zCallD (d + 10) 51 [7] σ R T := by
  have hL := h.lay
  have ht := h.1.2.2.2.2.2.1
  have hie := h.2.2.2.2.1
  have he := h.1.2.2.1
  have hi := h.lt (by rw [hk]; decide)
  have ib : i < 2147483647 := by omega
  have hin0 : (0 : Int) ≤ (i : Int) ∧ (i : Int) < ((2002 : Nat) : Int) := by omega
  have hX := h.next hi (hml i hi (by rw [hk]; decide))
  have fx : XFr tr N σ (mset σ 7 4 ((i + 1 : Nat) : Int)) := XFr.at7 ht (Or.inl rfl)
  obtain ⟨F', rfl⟩ : ∃ f, F = f + 1 := ⟨F - 1, by omega⟩
  unfold pLet pBs at hR
  by_cases k2 : kdT tp n (i + 1) = 2
  · rw [pTo_y k2] at hR
    simp only [c_51, b_51, ↓zwq, zpq, zgq, zhq, eq_sto, eq_kill, eq_zSto, eq_mset, eq_zGd, zsq, Int.reduceToNat, List.length_cons, List.length_nil, Nat.reduceAdd, Nat.reduceLT, Nat.reduceEqDiff, Int.reduceLT, Int.reduceLE, Int.reduceEq, Int.reduceNe, Int.reduceNeg, Int.reduceAdd, Int.reduceSub, Int.reduceMul, if_true, if_false, ite_true, ite_false, reduceIte, true_and, and_true, true_implies, forall_const, decide_eq_true_eq, decide_eq_false_iff_not, Bool.not_eq_true', Bool.not_eq_false', Bool.and_eq_true, Bool.or_eq_true, Bool.and_eq_false_iff, Bool.or_eq_false_iff, Bool.not_eq_true, Bool.not_eq_false, Bool.false_eq_true, Bool.true_eq_false, false_implies, implies_true, b2i_ne, b2i_eq, zB_b2i, not_true_eq_false, not_false_eq_true, List.drop_zero, List.drop_succ_cons, zIn_iff, zI8_iff, or_false, false_or, or_true, true_or, and_false, false_and, Decidable.not_not, laq hL, h.2.1, w32s ib, s36 (d + 8) hX, nlit, k2]
    refine s44 d D0 (F' + 1) hF hE hd hml hX k2 (by omega) _ _ ?_
    cases hq : pBind (kdT tp n) (F' + 1) E (i + 1) with
    | error x => rw [hq, pBd_er, pBd_er] at hR; exact fun υ hυ => hR υ (XErr.pre fx hυ)
    | ok x =>
      obtain ⟨t, j⟩ := x
      rw [hq, pBd_ok] at hR
      obtain ⟨ta, tb, rfl⟩ := pBind_nd hq
      intro m N1 τ x1 x2 x3 xl x4 x5 x6 x7
      have hje := x1.2.2.2.2.1
      have fr1 : XFr tr N σ τ := fx.tr x2 (Nat.le_refl _)
      refine xBinds d D0 (F' + 1) hF hE hd hml _ _ R T _ F' j N1 m τ (by omega) x1 (by omega) x4 x7 ?_
      have fin : ∀ (as : Fm) (k : Nat) (v : Int) (la N' : Nat) (υ : Mem), xRes tp n e tr pr ml mk i o N σ 0 R T (pTo (kdT tp n) 6 k (pBd (E (k + 1)) fun t k' => .ok (nd 5 i (.append (nd 6 (i + 1) ta tb) as) t, k'))) → XP tp n e tr pr ml k o N' υ → XFl tr N1 m τ υ → Is (xr υ tr 6 m) v → N1 ≤ N' → N' + 2 * j ≤ N1 + 2 * k → j ≤ k → rX (kdT tp n) (plT tp n) (vlT tp n) mk (xr υ tr) N1 N' as v →
          zCallD (d + 9) 39 [7, 6] υ (fun _ s => zCallD (d + 9) 49 [7] s (fun v2 s2 => (Lay s2 ∧ s2 7 2 = (tr : Int) ∧ s2 11 i = plT tp n i) ∧ zCallD (d + 9) 30 [(tr : Int), 5, plT tp n i, (m : Int), v2, 0] s2 R T) T) T := by
        intro as k v la N' υ hR y1 y2 y3 y4 y5 y6 y7
        have frL : XFr tr N σ υ := fr1.tr (y2.lo xl (by omega)) (Nat.le_refl _)
        have hlist : rX (kdT tp n) (plT tp n) (vlT tp n) mk (xr υ tr) N N' (.append (nd 6 (i + 1) ta tb) as) (m : Int) := by
          refine ⟨m, rfl, xl, by omega, ?_, ?_⟩
          · exact rX_el (lo := N) (hi := N1) (X := xr τ tr) (Or.inl rfl) (Nat.le_refl _) (by omega) (fun f k a b c => y2.2 f k b c) x6
          · rw [show xr υ tr 6 m = v from y3]
            exact rX_up _ _ _ _ _ _ (by omega) (Nat.le_refl _) (fun f k a b => rfl) y7
        by_cases k6 : kdT tp n k = 6
        · rw [pTo_y k6] at hR
          have hk' := y1.lt (by rw [k6]; decide)
          have hX2 := y1.next hk' (hml k hk' (by rw [k6]; decide))
          simp only [↓zwq, zpq, zgq, zhq, eq_sto, eq_kill, eq_zSto, eq_mset, eq_zGd, zsq, Int.reduceToNat, List.length_cons, List.length_nil, Nat.reduceAdd, Nat.reduceLT, Nat.reduceEqDiff, Int.reduceLT, Int.reduceLE, Int.reduceEq, Int.reduceNe, Int.reduceNeg, Int.reduceAdd, Int.reduceSub, Int.reduceMul, if_true, if_false, ite_true, ite_false, reduceIte, true_and, and_true, true_implies, forall_const, decide_eq_true_eq, decide_eq_false_iff_not, Bool.not_eq_true', Bool.not_eq_false', Bool.and_eq_true, Bool.or_eq_true, Bool.and_eq_false_iff, Bool.or_eq_false_iff, Bool.not_eq_true, Bool.not_eq_false, Bool.false_eq_true, Bool.true_eq_false, false_implies, implies_true, b2i_ne, b2i_eq, zB_b2i, not_true_eq_false, not_false_eq_true, List.drop_zero, List.drop_succ_cons, zIn_iff, zI8_iff, or_false, false_or, or_true, true_or, and_false, false_and, Decidable.not_not, s39 (d + 6) y1, nlit, k6]
          refine hE (d + 9) (by omega) (k + 1) _ _ _ _ hX2 (by omega) ?_
          have frM : XFr tr N' υ (mset υ 7 4 ((k + 1 : Nat) : Int)) := XFr.at7 ht (Or.inl rfl)
          cases hq2 : E (k + 1) with
          | error x => rw [hq2, pBd_er] at hR; exact fun ρ hρ => hR ρ (XErr.pre frL (XErr.pre frM hρ))
          | ok x =>
            obtain ⟨t2, k2'⟩ := x
            rw [hq2, pBd_ok] at hR
            intro m2 N2 ρ z1 z2 z3 zl z4 z5 z6
            have hke := z1.2.2.2.2.1
            have hN2 : N2 < 4096 := by omega
            refine ⟨⟨z1.lay, z1.1.2.2.2.1, (z1.1.2.1 i hie).2.1⟩, ?_⟩
            refine Eq.mpr (s30 (d + 8) z1.lay ht z1.2.2.2.1 hN2 _ _ _ _ _ _ _) ?_
            have frQ : XFr tr N' υ ρ := frM.tr z2 (Nat.le_refl _)
            refine hR N2 (N2 + 1) _ (z1.addN _ _ _ _ _) ((frL.tr frQ (by omega)).tr XFr.addN (by omega)) (by omega) (by omega) (Nat.lt_succ_self _) (by omega) ?_
            refine ⟨N2, rfl, by omega, Nat.lt_succ_self _, ?_⟩
            simp only [xr_add]
            simp
            refine ⟨rX_up _ _ _ _ _ _ (Nat.le_refl _) (by omega) (fun f k a b => ?_) hlist, rX_up _ _ _ _ _ _ (by omega) (by omega) (fun f k a b => ?_) z6⟩
            · rw [xr_add, if_neg (by omega)]; exact frQ.2 f k b
            · rw [xr_add, if_neg (by omega)]
        · rw [pTo_n k6] at hR
          simp only [↓zwq, zpq, zgq, zhq, eq_sto, eq_kill, eq_zSto, eq_mset, eq_zGd, zsq, Int.reduceToNat, List.length_cons, List.length_nil, Nat.reduceAdd, Nat.reduceLT, Nat.reduceEqDiff, Int.reduceLT, Int.reduceLE, Int.reduceEq, Int.reduceNe, Int.reduceNeg, Int.reduceAdd, Int.reduceSub, Int.reduceMul, if_true, if_false, ite_true, ite_false, reduceIte, true_and, and_true, true_implies, forall_const, decide_eq_true_eq, decide_eq_false_iff_not, Bool.not_eq_true', Bool.not_eq_false', Bool.and_eq_true, Bool.or_eq_true, Bool.and_eq_false_iff, Bool.or_eq_false_iff, Bool.not_eq_true, Bool.not_eq_false, Bool.false_eq_true, Bool.true_eq_false, false_implies, implies_true, b2i_ne, b2i_eq, zB_b2i, not_true_eq_false, not_false_eq_true, List.drop_zero, List.drop_succ_cons, zIn_iff, zI8_iff, or_false, false_or, or_true, true_or, and_false, false_and, Decidable.not_not, s39 (d + 6) y1, nlit, k6]
          exact hR _ (XErr.pre frL (XErr.of y1 1))
      have fin2 : ∀ (as : Fm) (k : Nat) (v : Int) (la N' : Nat) (υ : Mem) (Q : Int → zK), zCallD (d + 9) 39 [7, 6] υ (fun _ s => zCallD (d + 9) 49 [7] s (fun v2 s2 => (Lay s2 ∧ s2 7 2 = (tr : Int) ∧ s2 11 i = plT tp n i) ∧ zCallD (d + 9) 30 [(tr : Int), 5, plT tp n i, (m : Int), v2, 0] s2 R T) T) T → (∀ v2 s2, (Lay s2 ∧ s2 7 2 = (tr : Int) ∧ s2 11 i = plT tp n i) ∧ zCallD (d + 9) 30 [(tr : Int), 5, plT tp n i, (m : Int), v2, 0] s2 R T → Q 0 v2 s2) → zCallD (d + 9) 39 [7, 6] υ (fun _ s => zCallD (d + 9) 49 [7] s (Q 0) T) T := fun as k v la N' υ Q h1 h2 =>
        zCallD_mono _ _ _ _ _ _ _ _ (fun _ s hs => zCallD_mono _ _ _ _ _ _ _ _ (fun v2 s2 h3 => h2 v2 s2 h3) (fun _ _ => id) hs) (fun _ _ => id) h1
      by_cases k13 : kdT tp n j = 13
      · rw [if_pos k13] at hR ⊢
        cases hq2 : pBs (kdT tp n) (F' + 1) E F' (j + 1) with
        | error x => rw [hq2, pBd_er, pBd_er] at hR; exact fun υ hυ => hR υ (XErr.pre fr1 hυ)
        | ok x =>
          obtain ⟨as, k⟩ := x
          rw [hq2, pBd_ok, pBd_ok] at hR
          intro v la N' υ y1 y2 y3 y4 y5 y6 y7 y8
          have z := fin as k v la N' υ hR y1 y2 y3 y4 y5 y6 y7
          simp only [↓zwq, zpq, zgq, zhq, eq_sto, eq_kill, eq_zSto, eq_mset, eq_zGd, zsq, Int.reduceToNat, List.length_cons, List.length_nil, Nat.reduceAdd, Nat.reduceLT, Nat.reduceEqDiff, Int.reduceLT, Int.reduceLE, Int.reduceEq, Int.reduceNe, Int.reduceNeg, Int.reduceAdd, Int.reduceSub, Int.reduceMul, if_true, if_false, ite_true, ite_false, reduceIte, true_and, and_true, true_implies, forall_const, decide_eq_true_eq, decide_eq_false_iff_not, Bool.not_eq_true', Bool.not_eq_false', Bool.and_eq_true, Bool.or_eq_true, Bool.and_eq_false_iff, Bool.or_eq_false_iff, Bool.not_eq_true, Bool.not_eq_false, Bool.false_eq_true, Bool.true_eq_false, false_implies, implies_true, b2i_ne, b2i_eq, zB_b2i, not_true_eq_false, not_false_eq_true, List.drop_zero, List.drop_succ_cons, zIn_iff, zI8_iff, or_false, false_or, or_true, true_or, and_false, false_and, Decidable.not_not]
          refine fin2 as k v la N' υ (fun _ => _) z ?_
          rintro v2 s2 ⟨⟨a1, a2, a3⟩, a4⟩
          simp only [↓zwq, zpq, zgq, zhq, eq_sto, eq_kill, eq_zSto, eq_mset, eq_zGd, zsq, Int.reduceToNat, List.length_cons, List.length_nil, Nat.reduceAdd, Nat.reduceLT, Nat.reduceEqDiff, Int.reduceLT, Int.reduceLE, Int.reduceEq, Int.reduceNe, Int.reduceNeg, Int.reduceAdd, Int.reduceSub, Int.reduceMul, if_true, if_false, ite_true, ite_false, reduceIte, true_and, and_true, true_implies, forall_const, decide_eq_true_eq, decide_eq_false_iff_not, Bool.not_eq_true', Bool.not_eq_false', Bool.and_eq_true, Bool.or_eq_true, Bool.and_eq_false_iff, Bool.or_eq_false_iff, Bool.not_eq_true, Bool.not_eq_false, Bool.false_eq_true, Bool.true_eq_false, false_implies, implies_true, b2i_ne, b2i_eq, zB_b2i, not_true_eq_false, not_false_eq_true, List.drop_zero, List.drop_succ_cons, zIn_iff, zI8_iff, or_false, false_or, or_true, true_or, and_false, false_and, Decidable.not_not, laq a1, a2, a3, hin0, Int.toNat_natCast, trs ht]
          exact a4
      · rw [if_neg k13] at hR ⊢
        rw [pBd_ok] at hR
        intro v la N' υ y1 y2 y3 y4 y5 y6 y7 y8
        have z := fin .nil j v la N' υ hR y1 y2 y3 y4 y5 y6 y7
        simp only [↓zwq, zpq, zgq, zhq, eq_sto, eq_kill, eq_zSto, eq_mset, eq_zGd, zsq, Int.reduceToNat, List.length_cons, List.length_nil, Nat.reduceAdd, Nat.reduceLT, Nat.reduceEqDiff, Int.reduceLT, Int.reduceLE, Int.reduceEq, Int.reduceNe, Int.reduceNeg, Int.reduceAdd, Int.reduceSub, Int.reduceMul, if_true, if_false, ite_true, ite_false, reduceIte, true_and, and_true, true_implies, forall_const, decide_eq_true_eq, decide_eq_false_iff_not, Bool.not_eq_true', Bool.not_eq_false', Bool.and_eq_true, Bool.or_eq_true, Bool.and_eq_false_iff, Bool.or_eq_false_iff, Bool.not_eq_true, Bool.not_eq_false, Bool.false_eq_true, Bool.true_eq_false, false_implies, implies_true, b2i_ne, b2i_eq, zB_b2i, not_true_eq_false, not_false_eq_true, List.drop_zero, List.drop_succ_cons, zIn_iff, zI8_iff, or_false, false_or, or_true, true_or, and_false, false_and, Decidable.not_not]
        refine fin2 .nil j v la N' υ (fun _ => _) z ?_
        rintro v2 s2 ⟨⟨a1, a2, a3⟩, a4⟩
        simp only [↓zwq, zpq, zgq, zhq, eq_sto, eq_kill, eq_zSto, eq_mset, eq_zGd, zsq, Int.reduceToNat, List.length_cons, List.length_nil, Nat.reduceAdd, Nat.reduceLT, Nat.reduceEqDiff, Int.reduceLT, Int.reduceLE, Int.reduceEq, Int.reduceNe, Int.reduceNeg, Int.reduceAdd, Int.reduceSub, Int.reduceMul, if_true, if_false, ite_true, ite_false, reduceIte, true_and, and_true, true_implies, forall_const, decide_eq_true_eq, decide_eq_false_iff_not, Bool.not_eq_true', Bool.not_eq_false', Bool.and_eq_true, Bool.or_eq_true, Bool.and_eq_false_iff, Bool.or_eq_false_iff, Bool.not_eq_true, Bool.not_eq_false, Bool.false_eq_true, Bool.true_eq_false, false_implies, implies_true, b2i_ne, b2i_eq, zB_b2i, not_true_eq_false, not_false_eq_true, List.drop_zero, List.drop_succ_cons, zIn_iff, zI8_iff, or_false, false_or, or_true, true_or, and_false, false_and, Decidable.not_not, laq a1, a2, a3, hin0, Int.toNat_natCast, trs ht]
        exact a4
  · rw [pTo_n k2, pBd_er] at hR
    simp only [c_51, b_51, ↓zwq, zpq, zgq, zhq, eq_sto, eq_kill, eq_zSto, eq_mset, eq_zGd, zsq, Int.reduceToNat, List.length_cons, List.length_nil, Nat.reduceAdd, Nat.reduceLT, Nat.reduceEqDiff, Int.reduceLT, Int.reduceLE, Int.reduceEq, Int.reduceNe, Int.reduceNeg, Int.reduceAdd, Int.reduceSub, Int.reduceMul, if_true, if_false, ite_true, ite_false, reduceIte, true_and, and_true, true_implies, forall_const, decide_eq_true_eq, decide_eq_false_iff_not, Bool.not_eq_true', Bool.not_eq_false', Bool.and_eq_true, Bool.or_eq_true, Bool.and_eq_false_iff, Bool.or_eq_false_iff, Bool.not_eq_true, Bool.not_eq_false, Bool.false_eq_true, Bool.true_eq_false, false_implies, implies_true, b2i_ne, b2i_eq, zB_b2i, not_true_eq_false, not_false_eq_true, List.drop_zero, List.drop_succ_cons, zIn_iff, zI8_iff, or_false, false_or, or_true, true_or, and_false, false_and, Decidable.not_not, laq hL, h.2.1, w32s ib, s36 (d + 8) hX, nlit, k2, s38 (d + 8) hX]
    exact hR _ (XErr.pre (XFr.at7 (k := 0) ht (Or.inl rfl)) (XErr.of hX 1))
end
