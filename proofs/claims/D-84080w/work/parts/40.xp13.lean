/-! LazyForms' reader: cases; expressions -/
theorem pAlt_nd {kd : Nat → Nat} {F i j : Nat} {E : Nat → Rs} {t : Fm} (h : pAlt kd F E i = .ok (t, j)) : ∃ a b, t = nd 8 i a b := by
  unfold pAlt at h
  cases hq : pPat kd F i with
  | error x => rw [hq, pBd_er] at h; cases h
  | ok x =>
    obtain ⟨nl, j1⟩ := x
    rw [hq, pBd_ok] at h
    by_cases k : kd j1 = 15
    · rw [pTo_y k] at h
      cases hq2 : E (j1 + 1) with
      | error x => rw [hq2, pBd_er] at h; cases h
      | ok x => obtain ⟨t2, k2⟩ := x; rw [hq2, pBd_ok] at h; cases h; exact ⟨_, _, rfl⟩
    · rw [pTo_n k] at h; cases h
section
variable {tp : Nat → Int} {n e tr pr i o N : Nat} {ml : Nat → List (List Int)} {mk : Nat → Int} {σ : Mem} {E : Nat → Rs}
theorem xAlts (d D0 F : Nat) (hF : e ≤ F) (hM : HMk tp n e tr pr ml mk) (hE : HEx tp n e tr pr ml mk D0 o E) (hd : D0 ≤ d + 8) (hml : ∀ k, k < e → kdT tp n k ≠ 3 → ml (k + 1) = ml k) (c1v c2v : zTV) (fi : Int) (R T : zK) (K : zV) :
    ∀ (f j N l : Nat) (σ : Mem), e - j ≤ f → XP tp n e tr pr ml j o N σ → N ≤ 2 * j → l < N → Is (xr σ tr 6 l) (-1) →
    (match (if kdT tp n j = 13 then pAs (kdT tp n) F E f (j + 1) else .ok (.nil, j)) with
      | .ok (as, k) => ∀ (v : Int) (la N' : Nat) (τ : Mem), XP tp n e tr pr ml k o N' τ → XFl tr N l σ τ → Is (xr τ tr 6 l) v → N ≤ N' → N' + 2 * j ≤ N + 2 * k → j ≤ k → rX (kdT tp n) (plT tp n) (vlT tp n) mk (xr τ tr) N N' as v → K [(3, 7), c1v, c2v, (1, fi), (1, (la : Int)), (0, 0)] τ
      | .error (f, k) => ∀ τ, XErr tp n tr f k σ τ → T 13 τ) →
    zLpW (c0 .ne (eCall 37 [(eP (pL 3 0)), (eP (pI 13))])) (sBlk 5 (sSeq (sSt 1 5 (eCall 53 [(eP (pL 3 0))]))
  (sSeq (sSe 1 (eP (p1 (oGf 5 6 3) (p1 (oGf 2 2 3) (pL 3 0)))) (eP (pL 1 4)) (eP (pL 1 5)))
  (sSt 1 4 (eP (pL 1 5)))))) sSkip (zCallD (d + 9)) [(3, 7), c1v, c2v, (1, fi), (1, (l : Int)), (0, 0)] σ K R T := by
  intro f
  induction f with
  | zero =>
    intro j N l σ hf h hN hl h6 hR
    have hje := h.2.2.2.2.1
    have hk : ¬ kdT tp n j = 13 := by
      have := h.1.2.2.2.2.2.2.2.1
      rw [show j = e by omega]; omega
    rw [if_neg hk] at hR
    refine zLpW_in (zCallD_mono _) ?_
    simp only [↓zwq, zpq, zgq, zhq, eq_sto, eq_kill, eq_zSto, eq_mset, eq_zGd, zsq, Int.reduceToNat, List.length_cons, List.length_nil, Nat.reduceAdd, Nat.reduceLT, Nat.reduceEqDiff, Int.reduceLT, Int.reduceLE, Int.reduceEq, Int.reduceNe, Int.reduceNeg, Int.reduceAdd, Int.reduceSub, Int.reduceMul, if_true, if_false, ite_true, ite_false, reduceIte, true_and, and_true, true_implies, forall_const, decide_eq_true_eq, decide_eq_false_iff_not, Bool.not_eq_true', Bool.not_eq_false', Bool.and_eq_true, Bool.or_eq_true, Bool.and_eq_false_iff, Bool.or_eq_false_iff, Bool.not_eq_true, Bool.not_eq_false, Bool.false_eq_true, Bool.true_eq_false, false_implies, implies_true, b2i_ne, b2i_eq, zB_b2i, not_true_eq_false, not_false_eq_true, List.drop_zero, List.drop_succ_cons, zIn_iff, zI8_iff, or_false, false_or, or_true, true_or, and_false, false_and, Decidable.not_not, s37 (d + 7) h, nlit, hk]
    exact hR (-1) l N σ h (XFl.of XFr.rf) h6 (Nat.le_refl _) (by omega) (Nat.le_refl _) rfl
  | succ f ih =>
    intro j N l σ hf h hN hl h6 hR
    have hL := h.lay
    have ht := h.1.2.2.2.2.2.1
    have hje := h.2.2.2.2.1
    have he := h.1.2.2.1
    have hin2 : (0 : Int) ≤ (l : Int) ∧ (l : Int) < ((4096 : Nat) : Int) := by omega
    refine zLpW_in (zCallD_mono _) ?_
    by_cases hk : kdT tp n j = 13
    · rw [if_pos hk] at hR
      have hj := h.lt (by rw [hk]; decide)
      have hX := h.next hj (hml j hj (by rw [hk]; decide))
      have fx : XFr tr N σ (mset σ 7 4 ((j + 1 : Nat) : Int)) := XFr.at7 ht (Or.inl rfl)
      unfold pAs at hR
      simp only [↓zwq, zpq, zgq, zhq, eq_sto, eq_kill, eq_zSto, eq_mset, eq_zGd, zsq, Int.reduceToNat, List.length_cons, List.length_nil, Nat.reduceAdd, Nat.reduceLT, Nat.reduceEqDiff, Int.reduceLT, Int.reduceLE, Int.reduceEq, Int.reduceNe, Int.reduceNeg, Int.reduceAdd, Int.reduceSub, Int.reduceMul, if_true, if_false, ite_true, ite_false, reduceIte, true_and, and_true, true_implies, forall_const, decide_eq_true_eq, decide_eq_false_iff_not, Bool.not_eq_true', Bool.not_eq_false', Bool.and_eq_true, Bool.or_eq_true, Bool.and_eq_false_iff, Bool.or_eq_false_iff, Bool.not_eq_true, Bool.not_eq_false, Bool.false_eq_true, Bool.true_eq_false, false_implies, implies_true, b2i_ne, b2i_eq, zB_b2i, not_true_eq_false, not_false_eq_true, List.drop_zero, List.drop_succ_cons, zIn_iff, zI8_iff, or_false, false_or, or_true, true_or, and_false, false_and, Decidable.not_not, s37 (d + 7) h, nlit, hk]
      refine s53 d D0 F hF hM hE hd hml hX (by omega) _ _ ?_
      cases hq : pAlt (kdT tp n) F E (j + 1) with
      | error x => rw [hq, pBd_er] at hR; exact fun υ hυ => hR υ (XErr.pre fx hυ)
      | ok x =>
        obtain ⟨t, j2⟩ := x
        rw [hq, pBd_ok] at hR
        obtain ⟨ta, tb, rfl⟩ := pAlt_nd hq
        intro m N1 τ x1 x2 x3 xl x4 x5 x6 x7
        have hj2 := x1.2.2.2.2.1
        have hL1 := x1.lay
        simp only [↓zwq, zpq, zgq, zhq, eq_sto, eq_kill, eq_zSto, eq_mset, eq_zGd, zsq, Int.reduceToNat, List.length_cons, List.length_nil, Nat.reduceAdd, Nat.reduceLT, Nat.reduceEqDiff, Int.reduceLT, Int.reduceLE, Int.reduceEq, Int.reduceNe, Int.reduceNeg, Int.reduceAdd, Int.reduceSub, Int.reduceMul, if_true, if_false, ite_true, ite_false, reduceIte, true_and, and_true, true_implies, forall_const, decide_eq_true_eq, decide_eq_false_iff_not, Bool.not_eq_true', Bool.not_eq_false', Bool.and_eq_true, Bool.or_eq_true, Bool.and_eq_false_iff, Bool.or_eq_false_iff, Bool.not_eq_true, Bool.not_eq_false, Bool.false_eq_true, Bool.true_eq_false, false_implies, implies_true, b2i_ne, b2i_eq, zB_b2i, not_true_eq_false, not_false_eq_true, List.drop_zero, List.drop_succ_cons, zIn_iff, zI8_iff, or_false, false_or, or_true, true_or, and_false, false_and, Decidable.not_not, laq hL1, x1.1.2.2.2.1, Int.toNat_natCast, trq hL1 ht, trs ht, hin2]
        have fr1 : XFr tr N σ τ := fx.tr x2 (Nat.le_refl _)
        have hX3 : XP tp n e tr pr ml j2 o N1 (mset τ (tr + 7) l (m : Int)) := x1.setn (f := 6) rfl (by decide)
        have fL : XFl tr N l σ (mset τ (tr + 7) l (m : Int)) := by
          refine ⟨fr1.1.set (by simp [wP]), fun f k hk' hne => ?_⟩
          rw [xr_set (f := 6) rfl (by decide), if_neg hne]
          exact fr1.2 f k hk'
        refine ih j2 N1 m _ (by omega) hX3 (by omega) x4 ?_ ?_
        · unfold Is; rw [xr_set (f := 6) rfl (by decide), if_neg (by omega)]; exact x7
        · have fin : ∀ (as : Fm) (k : Nat) (v : Int) (la N' : Nat) (υ : Mem), (∀ (v : Int) (la N' : Nat) (τ : Mem), XP tp n e tr pr ml k o N' τ → XFl tr N l σ τ → Is (xr τ tr 6 l) v → N ≤ N' → N' + 2 * j ≤ N + 2 * k → j ≤ k → rX (kdT tp n) (plT tp n) (vlT tp n) mk (xr τ tr) N N' (.append (nd 8 (j + 1) ta tb) as) v → K [(3, 7), c1v, c2v, (1, fi), (1, (la : Int)), (0, 0)] τ) → XP tp n e tr pr ml k o N' υ → XFl tr N1 m (mset τ (tr + 7) l (m : Int)) υ → Is (xr υ tr 6 m) v → N1 ≤ N' → N' + 2 * j2 ≤ N1 + 2 * k → j2 ≤ k → rX (kdT tp n) (plT tp n) (vlT tp n) mk (xr υ tr) N1 N' as v → K [(3, 7), c1v, c2v, (1, fi), (1, (la : Int)), (0, 0)] υ := by
            intro as k v la N' υ hfin y1 y2 y3 y4 y5 y6 y7
            refine hfin (m : Int) la N' υ y1 ⟨fL.1.tr y2.1, fun f k a b => (y2.2 f k (by omega) (by omega)).trans (fL.2 f k a b)⟩ ?_ (by omega) (by omega) (by omega) ?_
            · unfold Is; rw [y2.2 6 l (by omega) (by omega), xr_set (f := 6) rfl (by decide), if_pos ⟨rfl, rfl⟩]
            · refine ⟨m, rfl, xl, by omega, ?_, ?_⟩
              · refine rX_el (lo := N) (hi := N1) (X := xr τ tr) (Or.inr (Or.inl rfl)) (Nat.le_refl _) (by omega) (fun f k a b c => ?_) x6
                rw [y2.2 f k b c, xr_set (f := 6) rfl (by decide), if_neg (by omega)]
              · rw [show xr υ tr 6 m = v from y3]
                exact rX_up _ _ _ _ _ _ (by omega) (Nat.le_refl _) (fun f k a b => rfl) y7
          by_cases hk2 : kdT tp n j2 = 13
          · rw [if_pos hk2] at hR ⊢
            cases hq2 : pAs (kdT tp n) F E f (j2 + 1) with
            | error x => rw [hq2, pBd_er] at hR; exact fun υ hυ => hR υ ⟨fL.1.tr hυ.1, hυ.2⟩
            | ok x =>
              obtain ⟨as, k⟩ := x
              rw [hq2, pBd_ok] at hR
              exact fun v la N' υ y1 y2 y3 y4 y5 y6 y7 => fin as k v la N' υ hR y1 y2 y3 y4 y5 y6 y7
          · rw [if_neg hk2] at hR ⊢
            exact fun v la N' υ y1 y2 y3 y4 y5 y6 y7 => fin .nil j2 v la N' υ hR y1 y2 y3 y4 y5 y6 y7
    · rw [if_neg hk] at hR
      simp only [↓zwq, zpq, zgq, zhq, eq_sto, eq_kill, eq_zSto, eq_mset, eq_zGd, zsq, Int.reduceToNat, List.length_cons, List.length_nil, Nat.reduceAdd, Nat.reduceLT, Nat.reduceEqDiff, Int.reduceLT, Int.reduceLE, Int.reduceEq, Int.reduceNe, Int.reduceNeg, Int.reduceAdd, Int.reduceSub, Int.reduceMul, if_true, if_false, ite_true, ite_false, reduceIte, true_and, and_true, true_implies, forall_const, decide_eq_true_eq, decide_eq_false_iff_not, Bool.not_eq_true', Bool.not_eq_false', Bool.and_eq_true, Bool.or_eq_true, Bool.and_eq_false_iff, Bool.or_eq_false_iff, Bool.not_eq_true, Bool.not_eq_false, Bool.false_eq_true, Bool.true_eq_false, false_implies, implies_true, b2i_ne, b2i_eq, zB_b2i, not_true_eq_false, not_false_eq_true, List.drop_zero, List.drop_succ_cons, zIn_iff, zI8_iff, or_false, false_or, or_true, true_or, and_false, false_and, Decidable.not_not, s37 (d + 7) h, nlit, hk]
      exact hR (-1) l N σ h (XFl.of XFr.rf) h6 (Nat.le_refl _) (by omega) (Nat.le_refl _) rfl
theorem s52 (d D0 F : Nat) (hF : e ≤ F) (hM : HMk tp n e tr pr ml mk) (hE : HEx tp n e tr pr ml mk D0 o E) (hd : D0 ≤ d + 8) (hml : ∀ k, k < e → kdT tp n k ≠ 3 → ml (k + 1) = ml k) (h : XP tp n e tr pr ml i o N σ) (hk : kdT tp n i = 7) (hN : N ≤ 2 * i) (R T : zK)
    (hR : xRes tp n e tr pr ml mk i o N σ 0 R T (pCase (kdT tp n) F E i)) : zCallD (d + 10) 52 [7] σ R T := by
  have hL := h.lay
  have ht := h.1.2.2.2.2.2.1
  have hie := h.2.2.2.2.1
  have he := h.1.2.2.1
  have hi := h.lt (by rw [hk]; decide)
  have ib : i < 2147483647 := by omega
  have hin0 : (0 : Int) ≤ (i : Int) ∧ (i : Int) < ((2002 : Nat) : Int) := by omega
  have hX := h.next hi (hml i hi (by rw [hk]; decide))
  have fx : XFr tr N σ (mset σ 7 4 ((i + 1 : Nat) : Int)) := XFr.at7 ht (Or.inl rfl)
  obtain ⟨F', rfl⟩ : ∃ f, F = f + 1 := ⟨F - 1, by omega⟩
  unfold pCase pAs at hR
  simp only [c_52, b_52, ↓zwq, zpq, zgq, zhq, eq_sto, eq_kill, eq_zSto, eq_mset, eq_zGd, zsq, Int.reduceToNat, List.length_cons, List.length_nil, Nat.reduceAdd, Nat.reduceLT, Nat.reduceEqDiff, Int.reduceLT, Int.reduceLE, Int.reduceEq, Int.reduceNe, Int.reduceNeg, Int.reduceAdd, Int.reduceSub, Int.reduceMul, if_true, if_false, ite_true, ite_false, reduceIte, true_and, and_true, true_implies, forall_const, decide_eq_true_eq, decide_eq_false_iff_not, Bool.not_eq_true', Bool.not_eq_false', Bool.and_eq_true, Bool.or_eq_true, Bool.and_eq_false_iff, Bool.or_eq_false_iff, Bool.not_eq_true, Bool.not_eq_false, Bool.false_eq_true, Bool.true_eq_false, false_implies, implies_true, b2i_ne, b2i_eq, zB_b2i, not_true_eq_false, not_false_eq_true, List.drop_zero, List.drop_succ_cons, zIn_iff, zI8_iff, or_false, false_or, or_true, true_or, and_false, false_and, Decidable.not_not, laq hL, h.2.1, w32s ib]
  refine hE (d + 9) (by omega) (i + 1) N _ _ _ hX (by omega) ?_
  cases hq : E (i + 1) with
  | error x => rw [hq, pBd_er] at hR; exact fun υ hυ => hR υ (XErr.pre fx hυ)
  | ok x =>
    obtain ⟨t, j⟩ := x
    rw [hq, pBd_ok] at hR
    intro m N1 τ x1 x2 x3 xl x4 x5 x6
    have fr1 : XFr tr N σ τ := fx.tr x2 (Nat.le_refl _)
    have hje := x1.2.2.2.2.1
    by_cases k8 : kdT tp n j = 8
    · rw [pTo_y k8] at hR
      have hj := x1.lt (by rw [k8]; decide)
      have hX2 := x1.next hj (hml j hj (by rw [k8]; decide))
      have fr2 : XFr tr N σ (mset τ 7 4 ((j + 1 : Nat) : Int)) := fr1.tr (XFr.at7 ht (Or.inl rfl)) (Nat.le_refl _)
      by_cases k11 : kdT tp n (j + 1) = 11
      · rw [pTo_y k11] at hR
        have hj2 := hX2.lt (by rw [k11]; decide)
        have hX3 := hX2.next hj2 (hml (j + 1) hj2 (by rw [k11]; decide))
        have fr3 : XFr tr N1 τ (mset (mset τ 7 4 ((j + 1 : Nat) : Int)) 7 4 ((j + 1 + 1 : Nat) : Int)) := (XFr.at7 ht (Or.inl rfl)).tr (XFr.at7 ht (Or.inl rfl)) (Nat.le_refl _)
        simp only [↓zwq, zpq, zgq, zhq, eq_sto, eq_kill, eq_zSto, eq_mset, eq_zGd, zsq, Int.reduceToNat, List.length_cons, List.length_nil, Nat.reduceAdd, Nat.reduceLT, Nat.reduceEqDiff, Int.reduceLT, Int.reduceLE, Int.reduceEq, Int.reduceNe, Int.reduceNeg, Int.reduceAdd, Int.reduceSub, Int.reduceMul, if_true, if_false, ite_true, ite_false, reduceIte, true_and, and_true, true_implies, forall_const, decide_eq_true_eq, decide_eq_false_iff_not, Bool.not_eq_true', Bool.not_eq_false', Bool.and_eq_true, Bool.or_eq_true, Bool.and_eq_false_iff, Bool.or_eq_false_iff, Bool.not_eq_true, Bool.not_eq_false, Bool.false_eq_true, Bool.true_eq_false, false_implies, implies_true, b2i_ne, b2i_eq, zB_b2i, not_true_eq_false, not_false_eq_true, List.drop_zero, List.drop_succ_cons, zIn_iff, zI8_iff, or_false, false_or, or_true, true_or, and_false, false_and, Decidable.not_not, s39 (d + 6) x1, nlit, k8, s39 (d + 6) hX2, k11]
        refine s53 d D0 (F' + 1) hF hM hE hd hml hX3 (by omega) _ _ ?_
        cases hq2 : pAlt (kdT tp n) (F' + 1) E (j + 2) with
        | error x =>
          rw [hq2, pBd_er, pBd_er] at hR
          exact fun υ hυ => hR υ (XErr.pre fr1 (XErr.pre fr3 hυ))
        | ok x =>
          obtain ⟨a, k⟩ := x
          rw [hq2, pBd_ok] at hR
          obtain ⟨ta, tb, rfl⟩ := pAlt_nd hq2
          intro m2 N2 υ y1 y2 y3 yl y4 y5 y6 y7
          have hke := y1.2.2.2.2.1
          have fr4 : XFr tr N1 τ υ := fr3.tr y2 (Nat.le_refl _)
          refine xAlts d D0 (F' + 1) hF hM hE hd hml _ _ _ R T _ F' k N2 m2 υ (by omega) y1 (by omega) y4 y7 ?_
          have fin : ∀ (as : Fm) (k2 : Nat) (v : Int) (la N' : Nat) (ρ : Mem), xRes tp n e tr pr ml mk i o N σ 0 R T (pTo (kdT tp n) 12 k2 (.ok (nd 7 i t (.append (nd 8 (j + 2) ta tb) as), k2 + 1))) → XP tp n e tr pr ml k2 o N' ρ → XFl tr N2 m2 υ ρ → Is (xr ρ tr 6 m2) v → N2 ≤ N' → N' + 2 * k ≤ N2 + 2 * k2 → k ≤ k2 → rX (kdT tp n) (plT tp n) (vlT tp n) mk (xr ρ tr) N2 N' as v →
              zCallD (d + 9) 39 [7, 12] ρ (fun _ s => (Lay s ∧ s 7 2 = (tr : Int) ∧ s 11 i = plT tp n i) ∧ zCallD (d + 9) 30 [(tr : Int), 7, plT tp n i, (m : Int), (m2 : Int), 0] s R T) T := by
            intro as k2 v la N' ρ hR z1 z2 z3 z4 z5 z6 z7
            have frL : XFr tr N1 τ ρ := fr4.tr (z2.lo yl (by omega)) (Nat.le_refl _)
            have hlist : rX (kdT tp n) (plT tp n) (vlT tp n) mk (xr ρ tr) N1 N' (.append (nd 8 (j + 2) ta tb) as) (m2 : Int) := by
              refine ⟨m2, rfl, yl, by omega, ?_, ?_⟩
              · exact rX_el (lo := N1) (hi := N2) (X := xr υ tr) (Or.inr (Or.inl rfl)) (Nat.le_refl _) (by omega) (fun f k a b c => z2.2 f k b c) y6
              · rw [show xr ρ tr 6 m2 = v from z3]
                exact rX_up _ _ _ _ _ _ (by omega) (Nat.le_refl _) (fun f k a b => rfl) z7
            have hk2e := z1.2.2.2.2.1
            by_cases k12 : kdT tp n k2 = 12
            · rw [pTo_y k12] at hR
              have hk2 := z1.lt (by rw [k12]; decide)
              have hX4 := z1.next hk2 (hml k2 hk2 (by rw [k12]; decide))
              have hN' : N' < 4096 := by omega
              simp only [↓zwq, zpq, zgq, zhq, eq_sto, eq_kill, eq_zSto, eq_mset, eq_zGd, zsq, Int.reduceToNat, List.length_cons, List.length_nil, Nat.reduceAdd, Nat.reduceLT, Nat.reduceEqDiff, Int.reduceLT, Int.reduceLE, Int.reduceEq, Int.reduceNe, Int.reduceNeg, Int.reduceAdd, Int.reduceSub, Int.reduceMul, if_true, if_false, ite_true, ite_false, reduceIte, true_and, and_true, true_implies, forall_const, decide_eq_true_eq, decide_eq_false_iff_not, Bool.not_eq_true', Bool.not_eq_false', Bool.and_eq_true, Bool.or_eq_true, Bool.and_eq_false_iff, Bool.or_eq_false_iff, Bool.not_eq_true, Bool.not_eq_false, Bool.false_eq_true, Bool.true_eq_false, false_implies, implies_true, b2i_ne, b2i_eq, zB_b2i, not_true_eq_false, not_false_eq_true, List.drop_zero, List.drop_succ_cons, zIn_iff, zI8_iff, or_false, false_or, or_true, true_or, and_false, false_and, Decidable.not_not, s39 (d + 6) z1, nlit, k12]
              refine ⟨⟨hX4.lay, hX4.1.2.2.2.1, (hX4.1.2.1 i hie).2.1⟩, ?_⟩
              refine Eq.mpr (s30 (d + 8) hX4.lay ht hX4.2.2.2.1 hN' _ _ _ _ _ _ _) ?_
              have frM : XFr tr N' ρ (mset ρ 7 4 ((k2 + 1 : Nat) : Int)) := XFr.at7 ht (Or.inl rfl)
              refine hR N' (N' + 1) _ (hX4.addN _ _ _ _ _) (((fr1.tr frL xl).tr frM (by omega)).tr XFr.addN (by omega)) (by omega) (by omega) (Nat.lt_succ_self _) (by omega) ?_
              refine ⟨N', rfl, by omega, Nat.lt_succ_self _, ?_⟩
              simp only [xr_add]
              simp
              refine ⟨rX_up _ _ _ _ _ _ (Nat.le_refl _) (by omega) (fun f k a b => ?_) x6, rX_up _ _ _ _ _ _ xl (by omega) (fun f k a b => ?_) hlist⟩
              · rw [xr_add, if_neg (by omega)]; exact (frM.2 f k (by omega)).trans (frL.2 f k b)
              · rw [xr_add, if_neg (by omega)]; exact frM.2 f k (by omega)
            · rw [pTo_n k12] at hR
              simp only [↓zwq, zpq, zgq, zhq, eq_sto, eq_kill, eq_zSto, eq_mset, eq_zGd, zsq, Int.reduceToNat, List.length_cons, List.length_nil, Nat.reduceAdd, Nat.reduceLT, Nat.reduceEqDiff, Int.reduceLT, Int.reduceLE, Int.reduceEq, Int.reduceNe, Int.reduceNeg, Int.reduceAdd, Int.reduceSub, Int.reduceMul, if_true, if_false, ite_true, ite_false, reduceIte, true_and, and_true, true_implies, forall_const, decide_eq_true_eq, decide_eq_false_iff_not, Bool.not_eq_true', Bool.not_eq_false', Bool.and_eq_true, Bool.or_eq_true, Bool.and_eq_false_iff, Bool.or_eq_false_iff, Bool.not_eq_true, Bool.not_eq_false, Bool.false_eq_true, Bool.true_eq_false, false_implies, implies_true, b2i_ne, b2i_eq, zB_b2i, not_true_eq_false, not_false_eq_true, List.drop_zero, List.drop_succ_cons, zIn_iff, zI8_iff, or_false, false_or, or_true, true_or, and_false, false_and, Decidable.not_not, s39 (d + 6) z1, nlit, k12]
              exact hR _ (XErr.pre (fr1.tr frL xl) (XErr.of z1 1))
          have fin2 : ∀ (ρ : Mem) (Q : zK), zCallD (d + 9) 39 [7, 12] ρ (fun _ s => (Lay s ∧ s 7 2 = (tr : Int) ∧ s 11 i = plT tp n i) ∧ zCallD (d + 9) 30 [(tr : Int), 7, plT tp n i, (m : Int), (m2 : Int), 0] s R T) T → (∀ v s, (Lay s ∧ s 7 2 = (tr : Int) ∧ s 11 i = plT tp n i) ∧ zCallD (d + 9) 30 [(tr : Int), 7, plT tp n i, (m : Int), (m2 : Int), 0] s R T → Q v s) → zCallD (d + 9) 39 [7, 12] ρ Q T := fun ρ Q h1 h2 => zCallD_mono _ _ _ _ _ _ _ _ (fun v s hs => h2 v s hs) (fun _ _ => id) h1
          by_cases k13 : kdT tp n k = 13
          · rw [if_pos k13] at hR ⊢
            cases hq3 : pAs (kdT tp n) (F' + 1) E F' (k + 1) with
            | error x => rw [hq3, pBd_er, pBd_er] at hR; exact fun ρ hρ => hR ρ (XErr.pre fr1 (XErr.pre fr4 hρ))
            | ok x =>
              obtain ⟨as, k2⟩ := x
              rw [hq3, pBd_ok, pBd_ok] at hR
              intro v la N' ρ z1 z2 z3 z4 z5 z6 z7
              have z := fin as k2 v la N' ρ hR z1 z2 z3 z4 z5 z6 z7
              simp only [↓zwq, zpq, zgq, zhq, eq_sto, eq_kill, eq_zSto, eq_mset, eq_zGd, zsq, Int.reduceToNat, List.length_cons, List.length_nil, Nat.reduceAdd, Nat.reduceLT, Nat.reduceEqDiff, Int.reduceLT, Int.reduceLE, Int.reduceEq, Int.reduceNe, Int.reduceNeg, Int.reduceAdd, Int.reduceSub, Int.reduceMul, if_true, if_false, ite_true, ite_false, reduceIte, true_and, and_true, true_implies, forall_const, decide_eq_true_eq, decide_eq_false_iff_not, Bool.not_eq_true', Bool.not_eq_false', Bool.and_eq_true, Bool.or_eq_true, Bool.and_eq_false_iff, Bool.or_eq_false_iff, Bool.not_eq_true, Bool.not_eq_false, Bool.false_eq_true, Bool.true_eq_false, false_implies, implies_true, b2i_ne, b2i_eq, zB_b2i, not_true_eq_false, not_false_eq_true, List.drop_zero, List.drop_succ_cons, zIn_iff, zI8_iff, or_false, false_or, or_true, true_or, and_false, false_and, Decidable.not_not]
              refine fin2 ρ _ z ?_
              rintro v2 s2 ⟨⟨a1, a2, a3⟩, a4⟩
              simp only [↓zwq, zpq, zgq, zhq, eq_sto, eq_kill, eq_zSto, eq_mset, eq_zGd, zsq, Int.reduceToNat, List.length_cons, List.length_nil, Nat.reduceAdd, Nat.reduceLT, Nat.reduceEqDiff, Int.reduceLT, Int.reduceLE, Int.reduceEq, Int.reduceNe, Int.reduceNeg, Int.reduceAdd, Int.reduceSub, Int.reduceMul, if_true, if_false, ite_true, ite_false, reduceIte, true_and, and_true, true_implies, forall_const, decide_eq_true_eq, decide_eq_false_iff_not, Bool.not_eq_true', Bool.not_eq_false', Bool.and_eq_true, Bool.or_eq_true, Bool.and_eq_false_iff, Bool.or_eq_false_iff, Bool.not_eq_true, Bool.not_eq_false, Bool.false_eq_true, Bool.true_eq_false, false_implies, implies_true, b2i_ne, b2i_eq, zB_b2i, not_true_eq_false, not_false_eq_true, List.drop_zero, List.drop_succ_cons, zIn_iff, zI8_iff, or_false, false_or, or_true, true_or, and_false, false_and, Decidable.not_not, laq a1, a2, a3, hin0, Int.toNat_natCast, trs ht]
              exact a4
          · rw [if_neg k13] at hR ⊢
            rw [pBd_ok] at hR
            intro v la N' ρ z1 z2 z3 z4 z5 z6 z7
            have z := fin .nil k v la N' ρ hR z1 z2 z3 z4 z5 z6 z7
            simp only [↓zwq, zpq, zgq, zhq, eq_sto, eq_kill, eq_zSto, eq_mset, eq_zGd, zsq, Int.reduceToNat, List.length_cons, List.length_nil, Nat.reduceAdd, Nat.reduceLT, Nat.reduceEqDiff, Int.reduceLT, Int.reduceLE, Int.reduceEq, Int.reduceNe, Int.reduceNeg, Int.reduceAdd, Int.reduceSub, Int.reduceMul, if_true, if_false, ite_true, ite_false, reduceIte, true_and, and_true, true_implies, forall_const, decide_eq_true_eq, decide_eq_false_iff_not, Bool.not_eq_true', Bool.not_eq_false', Bool.and_eq_true, Bool.or_eq_true, Bool.and_eq_false_iff, Bool.or_eq_false_iff, Bool.not_eq_true, Bool.not_eq_false, Bool.false_eq_true, Bool.true_eq_false, false_implies, implies_true, b2i_ne, b2i_eq, zB_b2i, not_true_eq_false, not_false_eq_true, List.drop_zero, List.drop_succ_cons, zIn_iff, zI8_iff, or_false, false_or, or_true, true_or, and_false, false_and, Decidable.not_not]
            refine fin2 ρ _ z ?_
            rintro v2 s2 ⟨⟨a1, a2, a3⟩, a4⟩
            simp only [↓zwq, zpq, zgq, zhq, eq_sto, eq_kill, eq_zSto, eq_mset, eq_zGd, zsq, Int.reduceToNat, List.length_cons, List.length_nil, Nat.reduceAdd, Nat.reduceLT, Nat.reduceEqDiff, Int.reduceLT, Int.reduceLE, Int.reduceEq, Int.reduceNe, Int.reduceNeg, Int.reduceAdd, Int.reduceSub, Int.reduceMul, if_true, if_false, ite_true, ite_false, reduceIte, true_and, and_true, true_implies, forall_const, decide_eq_true_eq, decide_eq_false_iff_not, Bool.not_eq_true', Bool.not_eq_false', Bool.and_eq_true, Bool.or_eq_true, Bool.and_eq_false_iff, Bool.or_eq_false_iff, Bool.not_eq_true, Bool.not_eq_false, Bool.false_eq_true, Bool.true_eq_false, false_implies, implies_true, b2i_ne, b2i_eq, zB_b2i, not_true_eq_false, not_false_eq_true, List.drop_zero, List.drop_succ_cons, zIn_iff, zI8_iff, or_false, false_or, or_true, true_or, and_false, false_and, Decidable.not_not, laq a1, a2, a3, hin0, Int.toNat_natCast, trs ht]
            exact a4
      · rw [pTo_n k11] at hR
        simp only [↓zwq, zpq, zgq, zhq, eq_sto, eq_kill, eq_zSto, eq_mset, eq_zGd, zsq, Int.reduceToNat, List.length_cons, List.length_nil, Nat.reduceAdd, Nat.reduceLT, Nat.reduceEqDiff, Int.reduceLT, Int.reduceLE, Int.reduceEq, Int.reduceNe, Int.reduceNeg, Int.reduceAdd, Int.reduceSub, Int.reduceMul, if_true, if_false, ite_true, ite_false, reduceIte, true_and, and_true, true_implies, forall_const, decide_eq_true_eq, decide_eq_false_iff_not, Bool.not_eq_true', Bool.not_eq_false', Bool.and_eq_true, Bool.or_eq_true, Bool.and_eq_false_iff, Bool.or_eq_false_iff, Bool.not_eq_true, Bool.not_eq_false, Bool.false_eq_true, Bool.true_eq_false, false_implies, implies_true, b2i_ne, b2i_eq, zB_b2i, not_true_eq_false, not_false_eq_true, List.drop_zero, List.drop_succ_cons, zIn_iff, zI8_iff, or_false, false_or, or_true, true_or, and_false, false_and, Decidable.not_not, s39 (d + 6) x1, nlit, k8, s39 (d + 6) hX2, k11]
        exact hR _ (XErr.pre fr2 (XErr.of hX2 1))
    · rw [pTo_n k8] at hR
      simp only [↓zwq, zpq, zgq, zhq, eq_sto, eq_kill, eq_zSto, eq_mset, eq_zGd, zsq, Int.reduceToNat, List.length_cons, List.length_nil, Nat.reduceAdd, Nat.reduceLT, Nat.reduceEqDiff, Int.reduceLT, Int.reduceLE, Int.reduceEq, Int.reduceNe, Int.reduceNeg, Int.reduceAdd, Int.reduceSub, Int.reduceMul, if_true, if_false, ite_true, ite_false, reduceIte, true_and, and_true, true_implies, forall_const, decide_eq_true_eq, decide_eq_false_iff_not, Bool.not_eq_true', Bool.not_eq_false', Bool.and_eq_true, Bool.or_eq_true, Bool.and_eq_false_iff, Bool.or_eq_false_iff, Bool.not_eq_true, Bool.not_eq_false, Bool.false_eq_true, Bool.true_eq_false, false_implies, implies_true, b2i_ne, b2i_eq, zB_b2i, not_true_eq_false, not_false_eq_true, List.drop_zero, List.drop_succ_cons, zIn_iff, zI8_iff, or_false, false_or, or_true, true_or, and_false, false_and, Decidable.not_not, s39 (d + 6) x1, nlit, k8]
      exact hR _ (XErr.pre fr1 (XErr.of x1 1))
theorem bgn_no {kd : Nat → Nat} {i : Nat} (h : bgn (kd i) = false) : kd i ≠ 16 ∧ kd i ≠ 5 ∧ kd i ≠ 7 := by
  simp [bgn] at h
  exact ⟨h.1.1.2, h.1.2, h.2⟩
/-- ex -/
theorem s49s (D0 F : Nat) (hF : e ≤ F) (hM : HMk tp n e tr pr ml mk) (hml : ∀ k, k < e → kdT tp n k ≠ 3 → ml (k + 1) = ml k) (ho : o < 20) (hE : HEx tp n e tr pr ml mk D0 (o + 1) E) : HEx tp n e tr pr ml mk (D0 + 14) o (pBody (kdT tp n) F E) := by
  intro D hD i N σ R T h hN hR
  obtain ⟨d, rfl⟩ : ∃ d, D = d + 14 := ⟨D - 14, by omega⟩
  have hL := h.lay
  have ht := h.1.2.2.2.2.2.1
  have hd : D0 ≤ d + 8 := by omega
  have ob : o < 2147483647 := by omega
  have hn20 : ((o : Int) = 20) = False := eq_false (by omega)
  have h7 : tr ≠ 7 ∧ tr + 10 ≠ 7 ∧ tr + 9 ≠ 7 := by rcases ht with h | h | h | h <;> omega
  have opn : ∀ {p q M : Nat} {s : Mem} (k : Nat), XP tp n e tr pr ml p q M s → XP tp n e tr pr ml p k M (mset s 7 5 (k : Int)) := by
    intro p q M s k hs
    obtain ⟨hS, a4, a5, a8, hi, hmt⟩ := hs
    refine ⟨hS.fr (Fr.rf.set (by simp [wP])), by simp [eq_mset, a4], by simp [eq_mset], by simp [eq_mset, h7.1, a8], hi, hmt.fr ht hS.2.2.2.2.2.2.1 (Fr.rf.set (by simp [wP])) ?_ ?_ ?_⟩
    · rw [eq_mset, if_neg h7.1]
    · intro k; rw [eq_mset, if_neg h7.2.1]
    · intro k; rw [eq_mset, if_neg h7.2.2]
  have hX : XP tp n e tr pr ml i (o + 1) N (mset σ 7 5 ((o + 1 : Nat) : Int)) := opn (o + 1) h
  have fx : XFr tr N σ (mset σ 7 5 ((o + 1 : Nat) : Int)) := XFr.at7 ht (Or.inr (Or.inl rfl))
  have wsub : w32 (((o + 1 : Nat) : Int) - 1) = (o : Int) := by unfold w32; omega
  have key : xRes tp n e tr pr ml mk i (o + 1) N (mset σ 7 5 ((o + 1 : Nat) : Int)) 0 (fun v s => (Lay s ∧ s 7 5 = ((o + 1 : Nat) : Int)) ∧ R v (mset s 7 5 (o : Int))) T (pBody (kdT tp n) F E i) := by
    revert hR
    cases pBody (kdT tp n) F E i with
    | error x => exact fun hR τ hτ => hR τ (XErr.pre fx hτ)
    | ok x =>
      obtain ⟨t, j⟩ := x
      intro hR m N' τ x1 x2 x3 xl x4 x5 x6
      refine ⟨⟨x1.lay, x1.2.2.1⟩, ?_⟩
      have fy : XFr tr N' τ (mset τ 7 5 (o : Int)) := XFr.at7 ht (Or.inr (Or.inl rfl))
      exact hR m N' _ (opn o x1) ((fx.tr x2 (Nat.le_refl _)).tr fy xl) x3 xl x4 x5 (rX_up _ _ _ _ _ _ (Nat.le_refl _) (Nat.le_refl _) (fun f k a b => fy.2 f k b) x6)
  clear hR
  have fin : ∀ y : Nat, zCallD (d + 13) y [7] (mset σ 7 5 ((o + 1 : Nat) : Int)) (fun v s => (Lay s ∧ s 7 5 = ((o + 1 : Nat) : Int)) ∧ R v (mset s 7 5 (o : Int))) T → ∀ Q : zK, (∀ v s, ((Lay s ∧ s 7 5 = ((o + 1 : Nat) : Int)) ∧ R v (mset s 7 5 (o : Int))) → Q v s) → zCallD (d + 13) y [7] (mset σ 7 5 ((o + 1 : Nat) : Int)) Q T := fun y h1 Q h2 => zCallD_mono _ _ _ _ _ _ _ _ (fun v s hs => h2 v s hs) (fun _ _ => id) h1
  unfold pBody at key
  by_cases k16 : kdT tp n i = 16
  · rw [if_pos k16] at key
    have z := s50 (d + 4) D0 F hF hE (by omega) hml hX k16 hN _ T key
    simp only [c_49, b_49, ↓zwq, zpq, zgq, zhq, eq_sto, eq_kill, eq_zSto, eq_mset, eq_zGd, zsq, Int.reduceToNat, List.length_cons, List.length_nil, Nat.reduceAdd, Nat.reduceLT, Nat.reduceEqDiff, Int.reduceLT, Int.reduceLE, Int.reduceEq, Int.reduceNe, Int.reduceNeg, Int.reduceAdd, Int.reduceSub, Int.reduceMul, if_true, if_false, ite_true, ite_false, reduceIte, true_and, and_true, true_implies, forall_const, decide_eq_true_eq, decide_eq_false_iff_not, Bool.not_eq_true', Bool.not_eq_false', Bool.and_eq_true, Bool.or_eq_true, Bool.and_eq_false_iff, Bool.or_eq_false_iff, Bool.not_eq_true, Bool.not_eq_false, Bool.false_eq_true, Bool.true_eq_false, false_implies, implies_true, b2i_ne, b2i_eq, zB_b2i, not_true_eq_false, not_false_eq_true, List.drop_zero, List.drop_succ_cons, zIn_iff, zI8_iff, or_false, false_or, or_true, true_or, and_false, false_and, Decidable.not_not, laq hL, h.2.2.1, hn20, w32s ob, s36 (d + 12) hX, nlit, k16]
    refine fin 50 z _ ?_
    rintro v s ⟨⟨a1, a2⟩, a3⟩
    simp only [↓zwq, zpq, zgq, zhq, eq_sto, eq_kill, eq_zSto, eq_mset, eq_zGd, zsq, Int.reduceToNat, List.length_cons, List.length_nil, Nat.reduceAdd, Nat.reduceLT, Nat.reduceEqDiff, Int.reduceLT, Int.reduceLE, Int.reduceEq, Int.reduceNe, Int.reduceNeg, Int.reduceAdd, Int.reduceSub, Int.reduceMul, if_true, if_false, ite_true, ite_false, reduceIte, true_and, and_true, true_implies, forall_const, decide_eq_true_eq, decide_eq_false_iff_not, Bool.not_eq_true', Bool.not_eq_false', Bool.and_eq_true, Bool.or_eq_true, Bool.and_eq_false_iff, Bool.or_eq_false_iff, Bool.not_eq_true, Bool.not_eq_false, Bool.false_eq_true, Bool.true_eq_false, false_implies, implies_true, b2i_ne, b2i_eq, zB_b2i, not_true_eq_false, not_false_eq_true, List.drop_zero, List.drop_succ_cons, zIn_iff, zI8_iff, or_false, false_or, or_true, true_or, and_false, false_and, Decidable.not_not, laq a1, a2, wsub]
    exact a3
  rw [if_neg k16] at key
  by_cases k5 : kdT tp n i = 5
  · rw [if_pos k5] at key
    have z := s51 (d + 3) D0 F hF hE (by omega) hml hX k5 hN _ T key
    simp only [c_49, b_49, ↓zwq, zpq, zgq, zhq, eq_sto, eq_kill, eq_zSto, eq_mset, eq_zGd, zsq, Int.reduceToNat, List.length_cons, List.length_nil, Nat.reduceAdd, Nat.reduceLT, Nat.reduceEqDiff, Int.reduceLT, Int.reduceLE, Int.reduceEq, Int.reduceNe, Int.reduceNeg, Int.reduceAdd, Int.reduceSub, Int.reduceMul, if_true, if_false, ite_true, ite_false, reduceIte, true_and, and_true, true_implies, forall_const, decide_eq_true_eq, decide_eq_false_iff_not, Bool.not_eq_true', Bool.not_eq_false', Bool.and_eq_true, Bool.or_eq_true, Bool.and_eq_false_iff, Bool.or_eq_false_iff, Bool.not_eq_true, Bool.not_eq_false, Bool.false_eq_true, Bool.true_eq_false, false_implies, implies_true, b2i_ne, b2i_eq, zB_b2i, not_true_eq_false, not_false_eq_true, List.drop_zero, List.drop_succ_cons, zIn_iff, zI8_iff, or_false, false_or, or_true, true_or, and_false, false_and, Decidable.not_not, laq hL, h.2.2.1, hn20, w32s ob, s36 (d + 12) hX, nlit, k16, k5]
    refine fin 51 z _ ?_
    rintro v s ⟨⟨a1, a2⟩, a3⟩
    simp only [↓zwq, zpq, zgq, zhq, eq_sto, eq_kill, eq_zSto, eq_mset, eq_zGd, zsq, Int.reduceToNat, List.length_cons, List.length_nil, Nat.reduceAdd, Nat.reduceLT, Nat.reduceEqDiff, Int.reduceLT, Int.reduceLE, Int.reduceEq, Int.reduceNe, Int.reduceNeg, Int.reduceAdd, Int.reduceSub, Int.reduceMul, if_true, if_false, ite_true, ite_false, reduceIte, true_and, and_true, true_implies, forall_const, decide_eq_true_eq, decide_eq_false_iff_not, Bool.not_eq_true', Bool.not_eq_false', Bool.and_eq_true, Bool.or_eq_true, Bool.and_eq_false_iff, Bool.or_eq_false_iff, Bool.not_eq_true, Bool.not_eq_false, Bool.false_eq_true, Bool.true_eq_false, false_implies, implies_true, b2i_ne, b2i_eq, zB_b2i, not_true_eq_false, not_false_eq_true, List.drop_zero, List.drop_succ_cons, zIn_iff, zI8_iff, or_false, false_or, or_true, true_or, and_false, false_and, Decidable.not_not, laq a1, a2, wsub]
    exact a3
  rw [if_neg k5] at key
  by_cases k7 : kdT tp n i = 7
  · rw [if_pos k7] at key
    have z := s52 (d + 3) D0 F hF hM hE (by omega) hml hX k7 hN _ T key
    simp only [c_49, b_49, ↓zwq, zpq, zgq, zhq, eq_sto, eq_kill, eq_zSto, eq_mset, eq_zGd, zsq, Int.reduceToNat, List.length_cons, List.length_nil, Nat.reduceAdd, Nat.reduceLT, Nat.reduceEqDiff, Int.reduceLT, Int.reduceLE, Int.reduceEq, Int.reduceNe, Int.reduceNeg, Int.reduceAdd, Int.reduceSub, Int.reduceMul, if_true, if_false, ite_true, ite_false, reduceIte, true_and, and_true, true_implies, forall_const, decide_eq_true_eq, decide_eq_false_iff_not, Bool.not_eq_true', Bool.not_eq_false', Bool.and_eq_true, Bool.or_eq_true, Bool.and_eq_false_iff, Bool.or_eq_false_iff, Bool.not_eq_true, Bool.not_eq_false, Bool.false_eq_true, Bool.true_eq_false, false_implies, implies_true, b2i_ne, b2i_eq, zB_b2i, not_true_eq_false, not_false_eq_true, List.drop_zero, List.drop_succ_cons, zIn_iff, zI8_iff, or_false, false_or, or_true, true_or, and_false, false_and, Decidable.not_not, laq hL, h.2.2.1, hn20, w32s ob, s36 (d + 12) hX, nlit, k16, k5, k7]
    refine fin 52 z _ ?_
    rintro v s ⟨⟨a1, a2⟩, a3⟩
    simp only [↓zwq, zpq, zgq, zhq, eq_sto, eq_kill, eq_zSto, eq_mset, eq_zGd, zsq, Int.reduceToNat, List.length_cons, List.length_nil, Nat.reduceAdd, Nat.reduceLT, Nat.reduceEqDiff, Int.reduceLT, Int.reduceLE, Int.reduceEq, Int.reduceNe, Int.reduceNeg, Int.reduceAdd, Int.reduceSub, Int.reduceMul, if_true, if_false, ite_true, ite_false, reduceIte, true_and, and_true, true_implies, forall_const, decide_eq_true_eq, decide_eq_false_iff_not, Bool.not_eq_true', Bool.not_eq_false', Bool.and_eq_true, Bool.or_eq_true, Bool.and_eq_false_iff, Bool.or_eq_false_iff, Bool.not_eq_true, Bool.not_eq_false, Bool.false_eq_true, Bool.true_eq_false, false_implies, implies_true, b2i_ne, b2i_eq, zB_b2i, not_true_eq_false, not_false_eq_true, List.drop_zero, List.drop_succ_cons, zIn_iff, zI8_iff, or_false, false_or, or_true, true_or, and_false, false_and, Decidable.not_not, laq a1, a2, wsub]
    exact a3
  · rw [if_neg k7] at key
    have z := s55 d D0 F hF hM hE hd hml hX hN _ T key
    simp only [c_49, b_49, ↓zwq, zpq, zgq, zhq, eq_sto, eq_kill, eq_zSto, eq_mset, eq_zGd, zsq, Int.reduceToNat, List.length_cons, List.length_nil, Nat.reduceAdd, Nat.reduceLT, Nat.reduceEqDiff, Int.reduceLT, Int.reduceLE, Int.reduceEq, Int.reduceNe, Int.reduceNeg, Int.reduceAdd, Int.reduceSub, Int.reduceMul, if_true, if_false, ite_true, ite_false, reduceIte, true_and, and_true, true_implies, forall_const, decide_eq_true_eq, decide_eq_false_iff_not, Bool.not_eq_true', Bool.not_eq_false', Bool.and_eq_true, Bool.or_eq_true, Bool.and_eq_false_iff, Bool.or_eq_false_iff, Bool.not_eq_true, Bool.not_eq_false, Bool.false_eq_true, Bool.true_eq_false, false_implies, implies_true, b2i_ne, b2i_eq, zB_b2i, not_true_eq_false, not_false_eq_true, List.drop_zero, List.drop_succ_cons, zIn_iff, zI8_iff, or_false, false_or, or_true, true_or, and_false, false_and, Decidable.not_not, laq hL, h.2.2.1, hn20, w32s ob, s36 (d + 12) hX, nlit, k16, k5, k7]
    refine fin 55 z _ ?_
    rintro v s ⟨⟨a1, a2⟩, a3⟩
    simp only [↓zwq, zpq, zgq, zhq, eq_sto, eq_kill, eq_zSto, eq_mset, eq_zGd, zsq, Int.reduceToNat, List.length_cons, List.length_nil, Nat.reduceAdd, Nat.reduceLT, Nat.reduceEqDiff, Int.reduceLT, Int.reduceLE, Int.reduceEq, Int.reduceNe, Int.reduceNeg, Int.reduceAdd, Int.reduceSub, Int.reduceMul, if_true, if_false, ite_true, ite_false, reduceIte, true_and, and_true, true_implies, forall_const, decide_eq_true_eq, decide_eq_false_iff_not, Bool.not_eq_true', Bool.not_eq_false', Bool.and_eq_true, Bool.or_eq_true, Bool.and_eq_false_iff, Bool.or_eq_false_iff, Bool.not_eq_true, Bool.not_eq_false, Bool.false_eq_true, Bool.true_eq_false, false_implies, implies_true, b2i_ne, b2i_eq, zB_b2i, not_true_eq_false, not_false_eq_true, List.drop_zero, List.drop_succ_cons, zIn_iff, zI8_iff, or_false, false_or, or_true, true_or, and_false, false_and, Decidable.not_not, laq a1, a2, wsub]
    exact a3
theorem s49z (F : Nat) : HEx tp n e tr pr ml mk 5 20 (pEx (kdT tp n) F 0) := by
  intro D hD i N σ R T h hN hR
  obtain ⟨d, rfl⟩ : ∃ d, D = d + 5 := ⟨D - 5, by omega⟩
  have hL := h.lay
  have h20 : σ 7 5 = 20 := h.2.2.1
  unfold pEx at hR
  cases g : bgn (kdT tp n i) with
  | true =>
    rw [g, if_pos rfl] at hR
    simp only [c_49, b_49, ↓zwq, zpq, zgq, zhq, eq_sto, eq_kill, eq_zSto, eq_mset, eq_zGd, zsq, Int.reduceToNat, List.length_cons, List.length_nil, Nat.reduceAdd, Nat.reduceLT, Nat.reduceEqDiff, Int.reduceLT, Int.reduceLE, Int.reduceEq, Int.reduceNe, Int.reduceNeg, Int.reduceAdd, Int.reduceSub, Int.reduceMul, if_true, if_false, ite_true, ite_false, reduceIte, true_and, and_true, true_implies, forall_const, decide_eq_true_eq, decide_eq_false_iff_not, Bool.not_eq_true', Bool.not_eq_false', Bool.and_eq_true, Bool.or_eq_true, Bool.and_eq_false_iff, Bool.or_eq_false_iff, Bool.not_eq_true, Bool.not_eq_false, Bool.false_eq_true, Bool.true_eq_false, false_implies, implies_true, b2i_ne, b2i_eq, zB_b2i, not_true_eq_false, not_false_eq_true, List.drop_zero, List.drop_succ_cons, zIn_iff, zI8_iff, or_false, false_or, or_true, true_or, and_false, false_and, Decidable.not_not, laq hL, h20, s47 (d + 1) h, g, s38 (d + 3) h]
    exact hR _ (XErr.of h 3)
  | false =>
    rw [g, if_neg (by decide)] at hR
    simp only [c_49, b_49, ↓zwq, zpq, zgq, zhq, eq_sto, eq_kill, eq_zSto, eq_mset, eq_zGd, zsq, Int.reduceToNat, List.length_cons, List.length_nil, Nat.reduceAdd, Nat.reduceLT, Nat.reduceEqDiff, Int.reduceLT, Int.reduceLE, Int.reduceEq, Int.reduceNe, Int.reduceNeg, Int.reduceAdd, Int.reduceSub, Int.reduceMul, if_true, if_false, ite_true, ite_false, reduceIte, true_and, and_true, true_implies, forall_const, decide_eq_true_eq, decide_eq_false_iff_not, Bool.not_eq_true', Bool.not_eq_false', Bool.and_eq_true, Bool.or_eq_true, Bool.and_eq_false_iff, Bool.or_eq_false_iff, Bool.not_eq_true, Bool.not_eq_false, Bool.false_eq_true, Bool.true_eq_false, false_implies, implies_true, b2i_ne, b2i_eq, zB_b2i, not_true_eq_false, not_false_eq_true, List.drop_zero, List.drop_succ_cons, zIn_iff, zI8_iff, or_false, false_or, or_true, true_or, and_false, false_and, Decidable.not_not, laq hL, h20, s47 (d + 1) h, g, s38 (d + 3) h]
    exact hR _ (XErr.of h 1)
/-- ex, with k levels left -/
theorem s49 (F : Nat) (hF : e ≤ F) (hM : HMk tp n e tr pr ml mk) (hml : ∀ k, k < e → kdT tp n k ≠ 3 → ml (k + 1) = ml k) : ∀ k o : Nat, k + o = 20 → HEx tp n e tr pr ml mk (5 + 14 * k) o (pEx (kdT tp n) F k)
  | 0, o, h => by cases (show o = 20 by omega); exact s49z F
  | k + 1, o, h => by
    have := s49s (o := o) (5 + 14 * k) F hF hM hml (by omega) (s49 F hF hM hml k (o + 1) (by omega))
    rw [show 5 + 14 * (k + 1) = 5 + 14 * k + 14 by omega]
    exact this
end
