/-! rows of parts: an element's tree stays when its next one is told -/
theorem rX_el {kd : Nat → Nat} {pl vl mk : Nat → Int} {X Y : Nat → Nat → Int} {lo hi lo' hi' : Nat} {k i l : Nat} {a b : Fm} (hk : k = 6 ∨ k = 8 ∨ k = 9 ∨ k = 11) (h1 : lo' ≤ lo) (h2 : hi ≤ hi') (hy : ∀ f k, lo ≤ k → k < hi → ¬ (f = 6 ∧ k = l) → Y f k = X f k) (h : rX kd pl vl mk X lo hi (nd k i a b) (l : Int)) : rX kd pl vl mk Y lo' hi' (nd k i a b) (l : Int) := by
  have n2 : ¬ k = 2 := by omega
  have n3 : ¬ k = 3 := by omega
  have n4 : ¬ k = 4 := by omega
  have n5 : ¬ (k = 5 ∨ k = 7 ∨ k = 10) := by omega
  have hl : ∀ f k, l < hi → lo ≤ k → k < l → Y f k = X f k := fun f k q2 a b => hy f k a (by omega) (by omega)
  have hs : ∀ f, lo ≤ l → l + 1 < hi → Y f (l + 1) = X f (l + 1) := fun f a b => hy f (l + 1) (by omega) b (by omega)
  have hh : ∀ x : Nat, x < hi → x < hi' := fun x a => by omega
  have hlo : ∀ x : Nat, lo ≤ x → lo' ≤ x := fun x a => by omega
  obtain ⟨m, e, q1, q2, c0, c1, k0, k1, k2, k3, k4, k5, k6, k8, k9, k10, k11⟩ := h
  cases Int.ofNat.inj e
  have za : ∀ n, rX kd pl vl mk X lo l a n → rX kd pl vl mk Y lo' l a n := fun n z => rX_up a lo l lo' l n h1 (Nat.le_refl _) (fun f k a b => hl f k q2 a b) z
  have zb : ∀ n, rX kd pl vl mk X lo l b n → rX kd pl vl mk Y lo' l b n := fun n z => rX_up b lo l lo' l n h1 (Nat.le_refl _) (fun f k a b => hl f k q2 a b) z
  have hm : ∀ f, f ≠ 6 → Y f l = X f l := fun f hf => hy f l q1 q2 (fun z => hf z.1)
  refine ⟨l, rfl, hlo _ q1, hh _ q2, ?_⟩
  simp only [hm 0 (by decide), hm 1 (by decide), hm 2 (by decide), hm 3 (by decide), hm 4 (by decide), hm 7 (by decide)]
  refine ⟨c0, c1, k0, k1, fun z => absurd z n2, fun z => absurd z n3, fun z => absurd z n4, fun z => absurd z n5, fun z => ?_, fun z => ?_, k9, k10, fun z => za _ (k11 z)⟩
  · obtain ⟨r1, r2, r3⟩ := k6 z
    refine ⟨r1, fun y => zb _ (r2 y), fun y => ?_⟩
    obtain ⟨u1, u2, u3, u4, u5, u6, u7⟩ := r3 y
    simp only [hs _ q1 u2]
    exact ⟨u1, hh _ u2, u3, u4, u5, za _ u6, zb _ u7⟩
  · obtain ⟨r1, r2, r3, r4, r5, r6⟩ := k8 z
    exact ⟨r1, r2, r3, r4, fun y => za _ (r5 y), zb _ r6⟩
/-- (equations that omega should not read) -/
def Is (a b : Int) : Prop := a = b
/-- all rows but one next are as they were -/
def XFl (tr N l : Nat) (σ τ : Mem) : Prop := Fr (wP tr) σ τ ∧ ∀ f k, k < N → ¬ (f = 6 ∧ k = l) → xr τ tr f k = xr σ tr f k
theorem XFl.of {tr N l : Nat} {σ τ : Mem} (h : XFr tr N σ τ) : XFl tr N l σ τ := ⟨h.1, fun f k hk _ => h.2 f k hk⟩
theorem XFl.lo {tr N M l : Nat} {σ τ : Mem} (h : XFl tr N l σ τ) (hl : M ≤ l) (hm : M ≤ N) : XFr tr M σ τ := ⟨h.1, fun f k hk => h.2 f k (by omega) (by omega)⟩
section
variable {tp : Nat → Int} {n e tr pr i o N : Nat} {ml : Nat → List (List Int)} {mk : Nat → Int} {σ : Mem} {E : Nat → Rs}
theorem xArgs (d D0 : Nat) (hM : HMk tp n e tr pr ml mk) (hE : HEx tp n e tr pr ml mk D0 o E) (hd : D0 ≤ d + 8) (hml : ∀ k, k < e → kdT tp n k ≠ 3 → ml (k + 1) = ml k) (c1v c2v c3v : zTV) (R T : zK) (K : zV) (ls : Int) :
    ∀ (F j N many l : Nat) (σ : Mem), e - j ≤ F → XP tp n e tr pr ml j o N σ → N ≤ 2 * j → l < N → Is (xr σ tr 6 l) (-1) → many ≤ j →
    (match pArgs (kdT tp n) E F j with
      | .ok (as, k) => ∀ (v : Int) (la N' : Nat) (τ : Mem), XP tp n e tr pr ml k o N' τ → XFl tr N l σ τ → Is (xr τ tr 6 l) v → N ≤ N' → N' + 2 * j ≤ N + 2 * k → j ≤ k → rX (kdT tp n) (plT tp n) (vlT tp n) mk (xr τ tr) N N' as v → K [(3, 7), c1v, c2v, c3v, (1, ls), (1, (la : Int)), (1, ((many + fLen as : Nat) : Int)), (0, 0), (0, 0), (0, 0)] τ
      | .error (f, k) => ∀ τ, XErr tp n tr f k σ τ → T 13 τ) →
    zLpW (c0 .ne (eCall 48 [(eP (pL 3 0))])) (sBlk 7 (sSeq (sSt 1 7 (eP (p1 (oGf 2 4 1) (pL 3 0))))
  (sSeq (sSt 1 8 (eCall 59 [(eP (pL 3 0))]))
  (sSeq (sSt 1 9 (eCall 30 [(eP (p1 (oGf 2 2 3) (pL 3 0))), (eP (pI 9)), (eP (p2 oIald (p1 (oGf 4 4 3) (p1 (oGf 2 0 3) (pL 3 0))) (pL 1 7))), (eP (pL 1 8)), (eP (pI 0)), (eP (pI 0))]))
  (sSeq (sIfE (cP (kI .eq (pL 1 5) (pI (-1))))
  (sSt 1 4 (eP (pL 1 9)))
  (sSe 1 (eP (p1 (oGf 5 6 3) (p1 (oGf 2 2 3) (pL 3 0)))) (eP (pL 1 5)) (eP (pL 1 9))))
  (sSeq (sSt 1 5 (eP (pL 1 9)))
  (sInc 6 1))))))) sSkip (zCallD (d + 9)) [(3, 7), c1v, c2v, c3v, (1, ls), (1, (l : Int)), (1, (many : Int)), (0, 0), (0, 0), (0, 0)] σ K R T := by
  intro F
  induction F with
  | zero =>
    intro j N many l σ hF h hN hl h6 hmn hR
    have hje := h.2.2.2.2.1
    have : j = e := by omega
    have hk : isAt (kdT tp n j) = false := by
      have := h.1.2.2.2.2.2.2.2.1
      rw [‹j = e›]
      unfold isAt; simp; omega
    refine zLpW_in (zCallD_mono _) ?_
    simp only [↓zwq, zpq, zgq, zhq, eq_sto, eq_kill, eq_zSto, eq_mset, eq_zGd, zsq, Int.reduceToNat, List.length_cons, List.length_nil, Nat.reduceAdd, Nat.reduceLT, Nat.reduceEqDiff, Int.reduceLT, Int.reduceLE, Int.reduceEq, Int.reduceNe, Int.reduceNeg, Int.reduceAdd, Int.reduceSub, Int.reduceMul, if_true, if_false, ite_true, ite_false, reduceIte, true_and, and_true, true_implies, forall_const, decide_eq_true_eq, decide_eq_false_iff_not, Bool.not_eq_true', Bool.not_eq_false', Bool.and_eq_true, Bool.or_eq_true, Bool.and_eq_false_iff, Bool.or_eq_false_iff, Bool.not_eq_true, Bool.not_eq_false, Bool.false_eq_true, Bool.true_eq_false, false_implies, implies_true, b2i_ne, b2i_eq, zB_b2i, not_true_eq_false, not_false_eq_true, List.drop_zero, List.drop_succ_cons, zIn_iff, zI8_iff, or_false, false_or, or_true, true_or, and_false, false_and, Decidable.not_not, s48 (d + 7) h, hk]
    exact hR (-1) l N σ h (XFl.of XFr.rf) h6 (Nat.le_refl _) (by omega) (Nat.le_refl _) rfl
  | succ F ih =>
    intro j N many l σ hF h hN hl h6 hmn hR
    have hL := h.lay
    have ht := h.1.2.2.2.2.2.1
    have hje := h.2.2.2.2.1
    have he := h.1.2.2.1
    have hin : (0 : Int) ≤ (j : Int) ∧ (j : Int) < ((2002 : Nat) : Int) := by omega
    have hin2 : (0 : Int) ≤ (l : Int) ∧ (l : Int) < ((4096 : Nat) : Int) := by omega
    have mb : many < 2147483647 := by omega
    refine zLpW_in (zCallD_mono _) ?_
    unfold pArgs at hR
    cases hk : isAt (kdT tp n j) with
    | false =>
      rw [hk, if_neg (by decide)] at hR
      simp only [↓zwq, zpq, zgq, zhq, eq_sto, eq_kill, eq_zSto, eq_mset, eq_zGd, zsq, Int.reduceToNat, List.length_cons, List.length_nil, Nat.reduceAdd, Nat.reduceLT, Nat.reduceEqDiff, Int.reduceLT, Int.reduceLE, Int.reduceEq, Int.reduceNe, Int.reduceNeg, Int.reduceAdd, Int.reduceSub, Int.reduceMul, if_true, if_false, ite_true, ite_false, reduceIte, true_and, and_true, true_implies, forall_const, decide_eq_true_eq, decide_eq_false_iff_not, Bool.not_eq_true', Bool.not_eq_false', Bool.and_eq_true, Bool.or_eq_true, Bool.and_eq_false_iff, Bool.or_eq_false_iff, Bool.not_eq_true, Bool.not_eq_false, Bool.false_eq_true, Bool.true_eq_false, false_implies, implies_true, b2i_ne, b2i_eq, zB_b2i, not_true_eq_false, not_false_eq_true, List.drop_zero, List.drop_succ_cons, zIn_iff, zI8_iff, or_false, false_or, or_true, true_or, and_false, false_and, Decidable.not_not, s48 (d + 7) h, hk]
      exact hR (-1) l N σ h (XFl.of XFr.rf) h6 (Nat.le_refl _) (by omega) (Nat.le_refl _) rfl
    | true =>
      rw [hk, if_pos rfl] at hR
      simp only [↓zwq, zpq, zgq, zhq, eq_sto, eq_kill, eq_zSto, eq_mset, eq_zGd, zsq, Int.reduceToNat, List.length_cons, List.length_nil, Nat.reduceAdd, Nat.reduceLT, Nat.reduceEqDiff, Int.reduceLT, Int.reduceLE, Int.reduceEq, Int.reduceNe, Int.reduceNeg, Int.reduceAdd, Int.reduceSub, Int.reduceMul, if_true, if_false, ite_true, ite_false, reduceIte, true_and, and_true, true_implies, forall_const, decide_eq_true_eq, decide_eq_false_iff_not, Bool.not_eq_true', Bool.not_eq_false', Bool.and_eq_true, Bool.or_eq_true, Bool.and_eq_false_iff, Bool.or_eq_false_iff, Bool.not_eq_true, Bool.not_eq_false, Bool.false_eq_true, Bool.true_eq_false, false_implies, implies_true, b2i_ne, b2i_eq, zB_b2i, not_true_eq_false, not_false_eq_true, List.drop_zero, List.drop_succ_cons, zIn_iff, zI8_iff, or_false, false_or, or_true, true_or, and_false, false_and, Decidable.not_not, s48 (d + 7) h, hk, laq hL, h.2.1]
      refine s59 d D0 hM hE hd hml h hN _ _ ?_
      unfold pBd at hR
      cases hq : pAtom (kdT tp n) E j with
      | error x =>
        rw [hq] at hR
        exact hR
      | ok x =>
        rw [hq] at hR
        obtain ⟨t, j'⟩ := x
        intro m N1 τ x1 x2 x3 xl x4 x5 x6
        have hL1 := x1.lay
        have jle : j ≤ e := by omega
        have hN1 : N1 < 4096 := by have := x1.2.2.2.2.1; omega
        have hA := x1.addN 9 (plT tp n j) (m : Int) 0 0
        have hLA := hA.lay
        simp only [↓zwq, zpq, zgq, zhq, eq_sto, eq_kill, eq_zSto, eq_mset, eq_zGd, zsq, Int.reduceToNat, List.length_cons, List.length_nil, Nat.reduceAdd, Nat.reduceLT, Nat.reduceEqDiff, Int.reduceLT, Int.reduceLE, Int.reduceEq, Int.reduceNe, Int.reduceNeg, Int.reduceAdd, Int.reduceSub, Int.reduceMul, if_true, if_false, ite_true, ite_false, reduceIte, true_and, and_true, true_implies, forall_const, decide_eq_true_eq, decide_eq_false_iff_not, Bool.not_eq_true', Bool.not_eq_false', Bool.and_eq_true, Bool.or_eq_true, Bool.and_eq_false_iff, Bool.or_eq_false_iff, Bool.not_eq_true, Bool.not_eq_false, Bool.false_eq_true, Bool.true_eq_false, false_implies, implies_true, b2i_ne, b2i_eq, zB_b2i, not_true_eq_false, not_false_eq_true, List.drop_zero, List.drop_succ_cons, zIn_iff, zI8_iff, or_false, false_or, or_true, true_or, and_false, false_and, Decidable.not_not, laq hL1, x1.1.2.2.2.1, Int.toNat_natCast, x1.1.2.1 j jle, hin, trs ht, s30 (d + 8) hL1 ht x1.2.2.2.1 hN1, nlit, laq hLA, hA.1.2.2.2.1, trq hLA ht, hin2, w32s mb]
        have fA : XFr tr N σ (addN tr N1 9 (plT tp n j) (m : Int) 0 0 τ) := x2.tr XFr.addN (by omega)
        have hX3 : XP tp n e tr pr ml j' o (N1 + 1) (mset (addN tr N1 9 (plT tp n j) (m : Int) 0 0 τ) (tr + 7) l (N1 : Int)) := hA.setn (f := 6) rfl (by decide)
        have fL : XFl tr N l σ (mset (addN tr N1 9 (plT tp n j) (m : Int) 0 0 τ) (tr + 7) l (N1 : Int)) := by
          refine ⟨fA.1.set (by simp [wP]), fun f k hk' hne => ?_⟩
          rw [xr_set (f := 6) rfl (by decide), if_neg hne]
          exact fA.2 f k hk'
        refine ih j' (N1 + 1) (many + 1) N1 _ (by omega) hX3 (by omega) (Nat.lt_succ_self _) ?_ (by omega) ?_
        · unfold Is; rw [xr_set (f := 6) rfl (by decide), if_neg (by omega), xr_add]; simp
        · dsimp only at hR
          cases hq2 : pArgs (kdT tp n) E F j' with
          | error x =>
            rw [hq2] at hR
            exact fun υ hυ => hR υ ⟨fL.1.tr hυ.1, hυ.2⟩
          | ok x =>
            rw [hq2] at hR
            obtain ⟨as, k'⟩ := x
            intro v la N' υ y1 y2 y3 y4 y5 y6 y7
            have hfin := hR (N1 : Int) la N' υ y1 ⟨fL.1.tr y2.1, fun f k a b => (y2.2 f k (by omega) (by omega)).trans (fL.2 f k a b)⟩ ?_ (by omega) (by omega) (by omega) ?_
            · have : many + 1 + fLen as = many + fLen (.append (nd 11 j t .nil) as) := by show _ = many + (fLen as + 1); omega
              rw [this]
              exact hfin
            · unfold Is; rw [y2.2 6 l (by omega) (by omega), xr_set (f := 6) rfl (by decide), if_pos ⟨rfl, rfl⟩]
            · refine ⟨N1, rfl, by omega, by omega, ?_, ?_⟩
              · refine rX_el (lo := N) (hi := N1 + 1) (X := xr (mset (addN tr N1 9 (plT tp n j) (m : Int) 0 0 τ) (tr + 7) l (N1 : Int)) tr) (Or.inr (Or.inr (Or.inr rfl))) (Nat.le_refl _) (by omega) (fun f k a b c => y2.2 f k (by omega) c) ?_
                refine ⟨N1, rfl, by omega, Nat.lt_succ_self _, ?_⟩
                have xe : ∀ f, xr (mset (addN tr N1 9 (plT tp n j) (m : Int) 0 0 τ) (tr + 7) l (N1 : Int)) tr f N1 = xr (addN tr N1 9 (plT tp n j) (m : Int) 0 0 τ) tr f N1 := fun f => by rw [xr_set (f := 6) rfl (by decide), if_neg (by omega)]
                simp only [xe, xr_add]
                simp
                refine rX_up _ _ _ _ _ _ (Nat.le_refl _) (Nat.le_refl _) (fun f k a b => ?_) x6
                rw [xr_set (f := 6) rfl (by decide), if_neg (by omega), xr_add, if_neg (by omega)]
              · rw [show xr υ tr 6 N1 = v from y3]
                exact rX_up _ _ _ _ _ _ (by omega) (Nat.le_refl _) (fun f k a b => rfl) y7
end
