/-! LazyFormsModel's reader: rows of bindings and alts -/
theorem pTo_pBd {kd : Nat → Nat} {k i : Nat} {r : Rs} {c : Fm → Nat → Rs} : pTo kd k i (pBd r c) = pBd (pTo kd k i r) c := by
  unfold pTo
  split <;> rfl
theorem pToBind_nd {kd : Nat → Nat} {F i j : Nat} {E : Nat → Rs} {t : Fm} (h : pTo kd 2 i (pBind kd F E i) = .ok (t, j)) : ∃ a b, t = nd 6 i a b := by
  by_cases k : kd i = 2
  · rw [pTo_y k] at h; exact pBind_nd h
  · rw [pTo_n k] at h; cases h
section
variable {tp : Nat → Int} {n e A i o N : Nat} {σ : Mem} {E : Nat → Rs}
theorem mBinds (d D0 F : Nat) (hF : e ≤ F) (hE : HMx tp n e A D0 o E) (hd : D0 ≤ d + 8) (c1v : zTV) (M : Int) (R T : zK) (K : zV) :
    ∀ (f j N l : Nat) (σ : Mem), e - j ≤ f → MP tp n e A j o N σ → N ≤ 2 * j → 4000 * A ≤ l → l < 4000 * A + N → Is (yr σ 4 l) (-1) →
    (match pBs (kdT tp n) F E f j with
      | .ok (as, k) => ∀ (v : Int) (la N' : Nat) (τ : Mem), MP tp n e A k o N' τ → YFl A N l σ τ → Is (yr τ 4 l) v → N ≤ N' → N' + 2 * j ≤ N + 2 * k → j < k → rM (kdT tp n) (tvT tp n A) (ppT tp n A) (yr τ) (4000 * A + N) (4000 * A + N') as v → K [(3, 90), c1v, (1, M), (1, (la : Int)), (0, 0)] τ
      | .error (f, k) => ∀ τ, MErr tp n f k σ τ → T 3 τ) →
    zDoW (sBlk 4 (sSeq (sSt 1 4 (eCall 152 [(eP (pL 3 0))]))
  (sSeq (sIfE (cP (k0 .lt (pL 1 3)))
  (sSe 1 (eP (p1 (oGf 6 12 3) (pL 3 0))) (eP (pL 1 2)) (eP (pL 1 4)))
  (sSe 1 (eP (p1 (oGf 6 15 3) (pL 3 0))) (eP (pL 1 3)) (eP (pL 1 4))))
  (sSt 1 3 (eP (pL 1 4))))))
  (c0 .ne (eCall 147 [(eP (pL 3 0)), (eP (pI 59))])) (zCallD (d + 9)) [(3, 90), c1v, (1, M), (1, (l : Int)), (0, 0)] σ K R T := by
  intro f
  induction f with
  | zero =>
    intro j N l σ hf h hN hl0 hl h6 hR
    have hk : pTo (kdT tp n) 2 j (pBind (kdT tp n) F E j) = .error (1, j) := by
      have hk1 := h.1.2.2.2.1
      have hje := h.2.2.2.2
      have ej : j = e := by omega
      exact pTo_n (by rw [ej]; omega)
    refine zDoW_in (zCallD_mono _) ?_
    simp only [↓zwq, zpq, zgq, zhq, eq_sto, eq_kill, eq_zSto, eq_mset, eq_zGd, zsq, Int.reduceToNat, List.length_cons, List.length_nil, Nat.reduceAdd, Nat.reduceLT, Nat.reduceEqDiff, Int.reduceLT, Int.reduceLE, Int.reduceEq, Int.reduceNe, Int.reduceNeg, Int.reduceAdd, Int.reduceSub, Int.reduceMul, if_true, if_false, ite_true, ite_false, reduceIte, true_and, and_true, true_implies, forall_const, decide_eq_true_eq, decide_eq_false_iff_not, Bool.not_eq_true', Bool.not_eq_false', Bool.and_eq_true, Bool.or_eq_true, Bool.and_eq_false_iff, Bool.or_eq_false_iff, Bool.not_eq_true, Bool.not_eq_false, Bool.false_eq_true, Bool.true_eq_false, false_implies, implies_true, b2i_ne, b2i_eq, zB_b2i, not_true_eq_false, not_false_eq_true, List.drop_zero, List.drop_succ_cons, zIn_iff, zI8_iff, or_false, false_or, or_true, true_or, and_false, false_and, Decidable.not_not]
    refine m152 d D0 F hF hE hd h hN _ _ ?_
    rw [hk]
    exact fun τ hτ => hR τ hτ
  | succ f ih =>
    intro j N l σ hf h hN hl0 hl h6 hR
    have hL := h.lay
    have hje := h.2.2.2.2
    have he := h.1.2.2.1
    have hA := h.1.1.2.2.1
    have hln : ¬ ((l : Int) < 0) := by omega
    refine zDoW_in (zCallD_mono _) ?_
    simp only [↓zwq, zpq, zgq, zhq, eq_sto, eq_kill, eq_zSto, eq_mset, eq_zGd, zsq, Int.reduceToNat, List.length_cons, List.length_nil, Nat.reduceAdd, Nat.reduceLT, Nat.reduceEqDiff, Int.reduceLT, Int.reduceLE, Int.reduceEq, Int.reduceNe, Int.reduceNeg, Int.reduceAdd, Int.reduceSub, Int.reduceMul, if_true, if_false, ite_true, ite_false, reduceIte, true_and, and_true, true_implies, forall_const, decide_eq_true_eq, decide_eq_false_iff_not, Bool.not_eq_true', Bool.not_eq_false', Bool.and_eq_true, Bool.or_eq_true, Bool.and_eq_false_iff, Bool.or_eq_false_iff, Bool.not_eq_true, Bool.not_eq_false, Bool.false_eq_true, Bool.true_eq_false, false_implies, implies_true, b2i_ne, b2i_eq, zB_b2i, not_true_eq_false, not_false_eq_true, List.drop_zero, List.drop_succ_cons, zIn_iff, zI8_iff, or_false, false_or, or_true, true_or, and_false, false_and, Decidable.not_not]
    refine m152 d D0 F hF hE hd h hN _ _ ?_
    rw [show pBs (kdT tp n) F E (f + 1) j = pTo (kdT tp n) 2 j (pBd (pBind (kdT tp n) F E j) fun b j => if kdT tp n j = 13 then pBd (pBs (kdT tp n) F E f (j + 1)) fun r k => .ok (.append b r, k) else .ok (.append b .nil, j)) from rfl, pTo_pBd] at hR
    cases hq : pTo (kdT tp n) 2 j (pBind (kdT tp n) F E j) with
    | error x => rw [hq, pBd_er] at hR; exact hR
    | ok x =>
      obtain ⟨t, j2⟩ := x
      rw [hq, pBd_ok] at hR
      obtain ⟨ta, tb, rfl⟩ := pToBind_nd hq
      intro m N1 τ x1 x2 x3 xl x4 x5 x6 x7
      have hj2 := x1.2.2.2.2
      have hL1 := x1.lay
      have hin2 : (0 : Int) ≤ (l : Int) ∧ (l : Int) < ((16000 : Nat) : Int) := by omega
      have hX3 : MP tp n e A j2 o N1 (mset τ 101 l (m : Int)) := x1.setn (f := 4) rfl (by decide)
      have fL : YFl A N l σ (mset τ 101 l (m : Int)) := by
        refine ⟨x2.1.set (by simp [wQ]), fun f k hk' hne => ?_⟩
        rw [yr_set (f := 4) rfl (by decide), if_neg hne]
        exact x2.2 f k hk'
      have elm : ∀ (υ : Mem) (N' : Nat), N1 ≤ N' → (∀ f k, 4000 * A + N ≤ k → k < 4000 * A + N1 → ¬ (f = 4 ∧ k = m) → yr υ f k = yr τ f k) → rM (kdT tp n) (tvT tp n A) (ppT tp n A) (yr υ) (4000 * A + N) (4000 * A + N') (nd 6 j ta tb) (m : Int) := fun υ N' hle hy => rM_el (Or.inl rfl) (Nat.le_refl _) (by omega) hy x6
      have m4 : Is (yr (mset τ 101 l (m : Int)) 4 m) (-1) := by unfold Is; rw [yr_set (f := 4) rfl (by decide), if_neg (by omega)]; exact x7
      have l4 : yr (mset τ 101 l (m : Int)) 4 l = (m : Int) := by rw [yr_set (f := 4) rfl (by decide), if_pos ⟨rfl, rfl⟩]
      have old : ∀ f k, 4000 * A + N ≤ k → yr (mset τ 101 l (m : Int)) f k = yr τ f k := fun f k a => by rw [yr_set (f := 4) rfl (by decide), if_neg (by omega)]
      by_cases k13 : kdT tp n j2 = 13
      · rw [if_pos k13] at hR
        have hj3 := hX3.lt (by rw [k13]; decide)
        have hX4 := hX3.next hj3
        simp only [↓zwq, zpq, zgq, zhq, eq_sto, eq_kill, eq_zSto, eq_mset, eq_zGd, zsq, Int.reduceToNat, List.length_cons, List.length_nil, Nat.reduceAdd, Nat.reduceLT, Nat.reduceEqDiff, Int.reduceLT, Int.reduceLE, Int.reduceEq, Int.reduceNe, Int.reduceNeg, Int.reduceAdd, Int.reduceSub, Int.reduceMul, if_true, if_false, ite_true, ite_false, reduceIte, true_and, and_true, true_implies, forall_const, decide_eq_true_eq, decide_eq_false_iff_not, Bool.not_eq_true', Bool.not_eq_false', Bool.and_eq_true, Bool.or_eq_true, Bool.and_eq_false_iff, Bool.or_eq_false_iff, Bool.not_eq_true, Bool.not_eq_false, Bool.false_eq_true, Bool.true_eq_false, false_implies, implies_true, b2i_ne, b2i_eq, zB_b2i, not_true_eq_false, not_false_eq_true, List.drop_zero, List.drop_succ_cons, zIn_iff, zI8_iff, or_false, false_or, or_true, true_or, and_false, false_and, Decidable.not_not, hln, laq hL1, Int.toNat_natCast, hin2, s147 (d + 7) hX3, sg_t (slit tp n j2).2.2.2.2.1 k13]
        have fz : YFr A N1 (mset τ 101 l (m : Int)) (mset (mset τ 101 l (m : Int)) 90 6 ((j2 + 1 : Nat) : Int)) := YFr.at90 (Or.inl rfl)
        have fzl : ∀ f k, k < 4000 * A + N1 → yr (mset (mset τ 101 l (m : Int)) 90 6 ((j2 + 1 : Nat) : Int)) f k = yr (mset τ 101 l (m : Int)) f k := fun f k a => fz.2 f k (Or.inl a)
        refine ih (j2 + 1) N1 m _ (by omega) hX4 (by omega) (by omega) x4 ?_ ?_
        · unfold Is; rw [fzl 4 m x4]; exact m4
        · cases hq2 : pBs (kdT tp n) F E f (j2 + 1) with
          | error x => rw [hq2, pBd_er] at hR; exact fun υ hυ => hR υ ⟨(fL.1.tr fz.1).tr hυ.1, hυ.2⟩
          | ok x =>
            obtain ⟨as, k⟩ := x
            rw [hq2, pBd_ok] at hR
            intro v la N' υ y1 y2 y3 y4 y5 y6 y7
            refine hR (m : Int) la N' υ y1 ⟨(fL.1.tr fz.1).tr y2.1, fun f k a b => ?_⟩ ?_ (by omega) (by omega) (by omega) ?_
            · rw [y2.2 f k (by omega) (by omega), fz.2 f k (by omega)]; exact fL.2 f k a b
            · unfold Is; rw [y2.2 4 l (Or.inl (by omega)) (by omega), fzl 4 l (by omega)]; exact l4
            · refine ⟨m, rfl, xl, by omega, elm υ N' (by omega) (fun f k a b c => ?_), ?_⟩
              · rw [y2.2 f k (Or.inl b) c, fzl f k b, old f k a]
              · rw [show yr υ 4 m = v from y3]
                exact rM_up _ _ _ _ _ _ (by omega) (Nat.le_refl _) (fun f k a b => rfl) y7
      · rw [if_neg k13] at hR
        simp only [↓zwq, zpq, zgq, zhq, eq_sto, eq_kill, eq_zSto, eq_mset, eq_zGd, zsq, Int.reduceToNat, List.length_cons, List.length_nil, Nat.reduceAdd, Nat.reduceLT, Nat.reduceEqDiff, Int.reduceLT, Int.reduceLE, Int.reduceEq, Int.reduceNe, Int.reduceNeg, Int.reduceAdd, Int.reduceSub, Int.reduceMul, if_true, if_false, ite_true, ite_false, reduceIte, true_and, and_true, true_implies, forall_const, decide_eq_true_eq, decide_eq_false_iff_not, Bool.not_eq_true', Bool.not_eq_false', Bool.and_eq_true, Bool.or_eq_true, Bool.and_eq_false_iff, Bool.or_eq_false_iff, Bool.not_eq_true, Bool.not_eq_false, Bool.false_eq_true, Bool.true_eq_false, false_implies, implies_true, b2i_ne, b2i_eq, zB_b2i, not_true_eq_false, not_false_eq_true, List.drop_zero, List.drop_succ_cons, zIn_iff, zI8_iff, or_false, false_or, or_true, true_or, and_false, false_and, Decidable.not_not, hln, laq hL1, Int.toNat_natCast, hin2, s147 (d + 7) hX3, sg_f (slit tp n j2).2.2.2.2.1 k13]
        refine hR (m : Int) m N1 _ hX3 fL l4 (by omega) x5 (by omega) ?_
        refine ⟨m, rfl, xl, x4, elm _ N1 (Nat.le_refl _) (fun f k a b c => old f k a), ?_⟩
        rw [show yr (mset τ 101 l (m : Int)) 4 m = -1 from m4]
        rfl
/-- the first one too -/
theorem mBinds1 (d D0 F : Nat) (hF : e ≤ F) (hE : HMx tp n e A D0 o E) (hd : D0 ≤ d + 8) (c1v : zTV) (M : Nat) (R T : zK) (K : zV) (f j N : Nat) (σ : Mem) (hf : e - j ≤ f) (h : MP tp n e A j o N σ) (hN : N ≤ 2 * j) (hM0 : 4000 * A ≤ M) (hM : M < 4000 * A + N)
    (hR : match pBs (kdT tp n) F E (f + 1) j with
      | .ok (as, k) => ∀ (v : Int) (la N' : Nat) (τ : Mem), MP tp n e A k o N' τ → Fr wQ σ τ → (∀ g q, (q < 4000 * A + N ∨ 4000 * A + 4000 ≤ q) → ¬ (g = 1 ∧ q = M) → yr τ g q = yr σ g q) → Is (yr τ 1 M) v → N ≤ N' → N' + 2 * j ≤ N + 2 * k → j < k → rM (kdT tp n) (tvT tp n A) (ppT tp n A) (yr τ) (4000 * A + N) (4000 * A + N') as v → K [(3, 90), c1v, (1, (M : Int)), (1, (la : Int)), (0, 0)] τ
      | .error (f, k) => ∀ τ, MErr tp n f k σ τ → T 3 τ) :
    zDoW (sBlk 4 (sSeq (sSt 1 4 (eCall 152 [(eP (pL 3 0))]))
  (sSeq (sIfE (cP (k0 .lt (pL 1 3)))
  (sSe 1 (eP (p1 (oGf 6 12 3) (pL 3 0))) (eP (pL 1 2)) (eP (pL 1 4)))
  (sSe 1 (eP (p1 (oGf 6 15 3) (pL 3 0))) (eP (pL 1 3)) (eP (pL 1 4))))
  (sSt 1 3 (eP (pL 1 4))))))
  (c0 .ne (eCall 147 [(eP (pL 3 0)), (eP (pI 59))])) (zCallD (d + 9)) [(3, 90), c1v, (1, (M : Int)), (1, -1), (0, 0)] σ K R T := by
  have hL := h.lay
  have hje := h.2.2.2.2
  have he := h.1.2.2.1
  have hA := h.1.1.2.2.1
  refine zDoW_in (zCallD_mono _) ?_
  simp only [↓zwq, zpq, zgq, zhq, eq_sto, eq_kill, eq_zSto, eq_mset, eq_zGd, zsq, Int.reduceToNat, List.length_cons, List.length_nil, Nat.reduceAdd, Nat.reduceLT, Nat.reduceEqDiff, Int.reduceLT, Int.reduceLE, Int.reduceEq, Int.reduceNe, Int.reduceNeg, Int.reduceAdd, Int.reduceSub, Int.reduceMul, if_true, if_false, ite_true, ite_false, reduceIte, true_and, and_true, true_implies, forall_const, decide_eq_true_eq, decide_eq_false_iff_not, Bool.not_eq_true', Bool.not_eq_false', Bool.and_eq_true, Bool.or_eq_true, Bool.and_eq_false_iff, Bool.or_eq_false_iff, Bool.not_eq_true, Bool.not_eq_false, Bool.false_eq_true, Bool.true_eq_false, false_implies, implies_true, b2i_ne, b2i_eq, zB_b2i, not_true_eq_false, not_false_eq_true, List.drop_zero, List.drop_succ_cons, zIn_iff, zI8_iff, or_false, false_or, or_true, true_or, and_false, false_and, Decidable.not_not]
  refine m152 d D0 F hF hE hd h hN _ _ ?_
  rw [show pBs (kdT tp n) F E (f + 1) j = pTo (kdT tp n) 2 j (pBd (pBind (kdT tp n) F E j) fun b j => if kdT tp n j = 13 then pBd (pBs (kdT tp n) F E f (j + 1)) fun r k => .ok (.append b r, k) else .ok (.append b .nil, j)) from rfl, pTo_pBd] at hR
  cases hq : pTo (kdT tp n) 2 j (pBind (kdT tp n) F E j) with
  | error x => rw [hq, pBd_er] at hR; exact hR
  | ok x =>
    obtain ⟨t, j2⟩ := x
    rw [hq, pBd_ok] at hR
    obtain ⟨ta, tb, rfl⟩ := pToBind_nd hq
    intro m N1 τ x1 x2 x3 xl x4 x5 x6 x7
    have hj2 := x1.2.2.2.2
    have hL1 := x1.lay
    have hin2 : (0 : Int) ≤ (M : Int) ∧ (M : Int) < ((16000 : Nat) : Int) := by omega
    have hX3 : MP tp n e A j2 o N1 (mset τ 98 M (m : Int)) := x1.setn (f := 1) rfl (by decide)
    have fS : Fr wQ σ (mset τ 98 M (m : Int)) := x2.1.set (by simp [wQ])
    have xe : ∀ g q, yr (mset τ 98 M (m : Int)) g q = if g = 1 ∧ q = M then (m : Int) else yr τ g q := fun g q => by rw [yr_set (f := 1) rfl (by decide)]
    have elm : ∀ (υ : Mem) (N' : Nat), N1 ≤ N' → (∀ f k, 4000 * A + N ≤ k → k < 4000 * A + N1 → ¬ (f = 4 ∧ k = m) → yr υ f k = yr τ f k) → rM (kdT tp n) (tvT tp n A) (ppT tp n A) (yr υ) (4000 * A + N) (4000 * A + N') (nd 6 j ta tb) (m : Int) := fun υ N' hle hy => rM_el (Or.inl rfl) (Nat.le_refl _) (by omega) hy x6
    have m4 : Is (yr (mset τ 98 M (m : Int)) 4 m) (-1) := by unfold Is; rw [xe, if_neg (by omega)]; exact x7
    have old : ∀ f k, 4000 * A + N ≤ k → yr (mset τ 98 M (m : Int)) f k = yr τ f k := fun f k a => by rw [xe, if_neg (by omega)]
    have out : ∀ g q, (q < 4000 * A + N ∨ 4000 * A + 4000 ≤ q) → ¬ (g = 1 ∧ q = M) → yr (mset τ 98 M (m : Int)) g q = yr σ g q := fun g q a b => by rw [xe, if_neg b]; exact x2.2 g q a
    have at1 : yr (mset τ 98 M (m : Int)) 1 M = (m : Int) := by rw [xe, if_pos ⟨rfl, rfl⟩]
    by_cases k13 : kdT tp n j2 = 13
    · rw [if_pos k13] at hR
      have hj3 := hX3.lt (by rw [k13]; decide)
      have hX4 := hX3.next hj3
      simp only [↓zwq, zpq, zgq, zhq, eq_sto, eq_kill, eq_zSto, eq_mset, eq_zGd, zsq, Int.reduceToNat, List.length_cons, List.length_nil, Nat.reduceAdd, Nat.reduceLT, Nat.reduceEqDiff, Int.reduceLT, Int.reduceLE, Int.reduceEq, Int.reduceNe, Int.reduceNeg, Int.reduceAdd, Int.reduceSub, Int.reduceMul, if_true, if_false, ite_true, ite_false, reduceIte, true_and, and_true, true_implies, forall_const, decide_eq_true_eq, decide_eq_false_iff_not, Bool.not_eq_true', Bool.not_eq_false', Bool.and_eq_true, Bool.or_eq_true, Bool.and_eq_false_iff, Bool.or_eq_false_iff, Bool.not_eq_true, Bool.not_eq_false, Bool.false_eq_true, Bool.true_eq_false, false_implies, implies_true, b2i_ne, b2i_eq, zB_b2i, not_true_eq_false, not_false_eq_true, List.drop_zero, List.drop_succ_cons, zIn_iff, zI8_iff, or_false, false_or, or_true, true_or, and_false, false_and, Decidable.not_not, laq hL1, Int.toNat_natCast, hin2, s147 (d + 7) hX3, sg_t (slit tp n j2).2.2.2.2.1 k13]
      have fz : YFr A N1 (mset τ 98 M (m : Int)) (mset (mset τ 98 M (m : Int)) 90 6 ((j2 + 1 : Nat) : Int)) := YFr.at90 (Or.inl rfl)
      have fzl : ∀ f k, k < 4000 * A + N1 → yr (mset (mset τ 98 M (m : Int)) 90 6 ((j2 + 1 : Nat) : Int)) f k = yr (mset τ 98 M (m : Int)) f k := fun f k a => fz.2 f k (Or.inl a)
      refine mBinds d D0 F hF hE hd c1v M R T K f (j2 + 1) N1 m _ (by omega) hX4 (by omega) (by omega) x4 ?_ ?_
      · unfold Is; rw [fzl 4 m x4]; exact m4
      · cases hq2 : pBs (kdT tp n) F E f (j2 + 1) with
        | error x => rw [hq2, pBd_er] at hR; exact fun υ hυ => hR υ ⟨(fS.tr fz.1).tr hυ.1, hυ.2⟩
        | ok x =>
          obtain ⟨as, k⟩ := x
          rw [hq2, pBd_ok] at hR
          intro v la N' υ y1 y2 y3 y4 y5 y6 y7
          refine hR (m : Int) la N' υ y1 ((fS.tr fz.1).tr y2.1) (fun g q a b => ?_) ?_ (by omega) (by omega) (by omega) ?_
          · rw [y2.2 g q (by omega) (by omega), fz.2 g q (by omega)]; exact out g q a b
          · unfold Is; rw [y2.2 1 M (Or.inl (by omega)) (by omega), fzl 1 M (by omega)]; exact at1
          · refine ⟨m, rfl, xl, by omega, elm υ N' (by omega) (fun f k a b c => ?_), ?_⟩
            · rw [y2.2 f k (Or.inl b) c, fzl f k b, old f k a]
            · rw [show yr υ 4 m = v from y3]
              exact rM_up _ _ _ _ _ _ (by omega) (Nat.le_refl _) (fun f k a b => rfl) y7
    · rw [if_neg k13] at hR
      simp only [↓zwq, zpq, zgq, zhq, eq_sto, eq_kill, eq_zSto, eq_mset, eq_zGd, zsq, Int.reduceToNat, List.length_cons, List.length_nil, Nat.reduceAdd, Nat.reduceLT, Nat.reduceEqDiff, Int.reduceLT, Int.reduceLE, Int.reduceEq, Int.reduceNe, Int.reduceNeg, Int.reduceAdd, Int.reduceSub, Int.reduceMul, if_true, if_false, ite_true, ite_false, reduceIte, true_and, and_true, true_implies, forall_const, decide_eq_true_eq, decide_eq_false_iff_not, Bool.not_eq_true', Bool.not_eq_false', Bool.and_eq_true, Bool.or_eq_true, Bool.and_eq_false_iff, Bool.or_eq_false_iff, Bool.not_eq_true, Bool.not_eq_false, Bool.false_eq_true, Bool.true_eq_false, false_implies, implies_true, b2i_ne, b2i_eq, zB_b2i, not_true_eq_false, not_false_eq_true, List.drop_zero, List.drop_succ_cons, zIn_iff, zI8_iff, or_false, false_or, or_true, true_or, and_false, false_and, Decidable.not_not, laq hL1, Int.toNat_natCast, hin2, s147 (d + 7) hX3, sg_f (slit tp n j2).2.2.2.2.1 k13]
      refine hR (m : Int) m N1 _ hX3 fS out at1 (by omega) x5 (by omega) ?_
      refine ⟨m, rfl, xl, x4, elm _ N1 (Nat.le_refl _) (fun f k a b c => old f k a), ?_⟩
      rw [show yr (mset τ 98 M (m : Int)) 4 m = -1 from m4]
      rfl
theorem mAlts (d D0 F : Nat) (hF : e ≤ F) (hE : HMx tp n e A D0 o E) (hd : D0 ≤ d + 8) (c1v : zTV) (M : Int) (R T : zK) (K : zV) :
    ∀ (f j N l : Nat) (σ : Mem), e - j ≤ f → MP tp n e A j o N σ → N < 2 * j → 4000 * A ≤ l → l < 4000 * A + N → Is (yr σ 4 l) (-1) →
    (match pAs (kdT tp n) F E f j with
      | .ok (as, k) => ∀ (v : Int) (la N' : Nat) (τ : Mem), MP tp n e A k o N' τ → YFl A N l σ τ → Is (yr τ 4 l) v → N ≤ N' → N' + 2 * j ≤ N + 2 * k → j < k → rM (kdT tp n) (tvT tp n A) (ppT tp n A) (yr τ) (4000 * A + N) (4000 * A + N') as v → K [(3, 90), c1v, (1, M), (1, (la : Int)), (0, 0)] τ
      | .error (f, k) => ∀ τ, MErr tp n f k σ τ → T 3 τ) →
    zDoW (sBlk 4 (sSeq (sSt 1 4 (eCall 161 [(eP (pL 3 0))]))
  (sSeq (sIfE (cP (k0 .lt (pL 1 3)))
  (sSe 1 (eP (p1 (oGf 6 13 3) (pL 3 0))) (eP (pL 1 2)) (eP (pL 1 4)))
  (sSe 1 (eP (p1 (oGf 6 15 3) (pL 3 0))) (eP (pL 1 3)) (eP (pL 1 4))))
  (sSt 1 3 (eP (pL 1 4))))))
  (c0 .ne (eCall 147 [(eP (pL 3 0)), (eP (pI 59))])) (zCallD (d + 9)) [(3, 90), c1v, (1, M), (1, (l : Int)), (0, 0)] σ K R T := by
  intro f
  induction f with
  | zero =>
    intro j N l σ hf h hN hl0 hl h6 hR
    have hk : pAlt (kdT tp n) F E j = .error (1, j) := by
      have hk1 := h.1.2.2.2.1
      have hje := h.2.2.2.2
      have ej : j = e := by omega
      unfold pAlt pPat
      rw [ej, if_neg (by omega), if_neg (by omega), if_neg (by omega), if_neg (by omega)]
      rfl
    refine zDoW_in (zCallD_mono _) ?_
    simp only [↓zwq, zpq, zgq, zhq, eq_sto, eq_kill, eq_zSto, eq_mset, eq_zGd, zsq, Int.reduceToNat, List.length_cons, List.length_nil, Nat.reduceAdd, Nat.reduceLT, Nat.reduceEqDiff, Int.reduceLT, Int.reduceLE, Int.reduceEq, Int.reduceNe, Int.reduceNeg, Int.reduceAdd, Int.reduceSub, Int.reduceMul, if_true, if_false, ite_true, ite_false, reduceIte, true_and, and_true, true_implies, forall_const, decide_eq_true_eq, decide_eq_false_iff_not, Bool.not_eq_true', Bool.not_eq_false', Bool.and_eq_true, Bool.or_eq_true, Bool.and_eq_false_iff, Bool.or_eq_false_iff, Bool.not_eq_true, Bool.not_eq_false, Bool.false_eq_true, Bool.true_eq_false, false_implies, implies_true, b2i_ne, b2i_eq, zB_b2i, not_true_eq_false, not_false_eq_true, List.drop_zero, List.drop_succ_cons, zIn_iff, zI8_iff, or_false, false_or, or_true, true_or, and_false, false_and, Decidable.not_not]
    refine m161 d D0 F hF hE hd h hN _ _ ?_
    rw [hk]
    exact fun τ hτ => hR τ hτ
  | succ f ih =>
    intro j N l σ hf h hN hl0 hl h6 hR
    have hL := h.lay
    have hje := h.2.2.2.2
    have he := h.1.2.2.1
    have hA := h.1.1.2.2.1
    have hln : ¬ ((l : Int) < 0) := by omega
    refine zDoW_in (zCallD_mono _) ?_
    simp only [↓zwq, zpq, zgq, zhq, eq_sto, eq_kill, eq_zSto, eq_mset, eq_zGd, zsq, Int.reduceToNat, List.length_cons, List.length_nil, Nat.reduceAdd, Nat.reduceLT, Nat.reduceEqDiff, Int.reduceLT, Int.reduceLE, Int.reduceEq, Int.reduceNe, Int.reduceNeg, Int.reduceAdd, Int.reduceSub, Int.reduceMul, if_true, if_false, ite_true, ite_false, reduceIte, true_and, and_true, true_implies, forall_const, decide_eq_true_eq, decide_eq_false_iff_not, Bool.not_eq_true', Bool.not_eq_false', Bool.and_eq_true, Bool.or_eq_true, Bool.and_eq_false_iff, Bool.or_eq_false_iff, Bool.not_eq_true, Bool.not_eq_false, Bool.false_eq_true, Bool.true_eq_false, false_implies, implies_true, b2i_ne, b2i_eq, zB_b2i, not_true_eq_false, not_false_eq_true, List.drop_zero, List.drop_succ_cons, zIn_iff, zI8_iff, or_false, false_or, or_true, true_or, and_false, false_and, Decidable.not_not]
    refine m161 d D0 F hF hE hd h hN _ _ ?_
    unfold pAs at hR
    cases hq : pAlt (kdT tp n) F E j with
    | error x => rw [hq, pBd_er] at hR; exact hR
    | ok x =>
      obtain ⟨t, j2⟩ := x
      rw [hq, pBd_ok] at hR
      obtain ⟨ta, tb, rfl⟩ := pAlt_nd hq
      intro m N1 τ x1 x2 x3 xl x4 x5 x6 x7
      have hj2 := x1.2.2.2.2
      have hL1 := x1.lay
      have hin2 : (0 : Int) ≤ (l : Int) ∧ (l : Int) < ((16000 : Nat) : Int) := by omega
      have hX3 : MP tp n e A j2 o N1 (mset τ 101 l (m : Int)) := x1.setn (f := 4) rfl (by decide)
      have fL : YFl A N l σ (mset τ 101 l (m : Int)) := by
        refine ⟨x2.1.set (by simp [wQ]), fun f k hk' hne => ?_⟩
        rw [yr_set (f := 4) rfl (by decide), if_neg hne]
        exact x2.2 f k hk'
      have elm : ∀ (υ : Mem) (N' : Nat), N1 ≤ N' → (∀ f k, 4000 * A + N ≤ k → k < 4000 * A + N1 → ¬ (f = 4 ∧ k = m) → yr υ f k = yr τ f k) → rM (kdT tp n) (tvT tp n A) (ppT tp n A) (yr υ) (4000 * A + N) (4000 * A + N') (nd 8 j ta tb) (m : Int) := fun υ N' hle hy => rM_el (Or.inr (Or.inl rfl)) (Nat.le_refl _) (by omega) hy x6
      have m4 : Is (yr (mset τ 101 l (m : Int)) 4 m) (-1) := by unfold Is; rw [yr_set (f := 4) rfl (by decide), if_neg (by omega)]; exact x7
      have l4 : yr (mset τ 101 l (m : Int)) 4 l = (m : Int) := by rw [yr_set (f := 4) rfl (by decide), if_pos ⟨rfl, rfl⟩]
      have old : ∀ f k, 4000 * A + N ≤ k → yr (mset τ 101 l (m : Int)) f k = yr τ f k := fun f k a => by rw [yr_set (f := 4) rfl (by decide), if_neg (by omega)]
      by_cases k13 : kdT tp n j2 = 13
      · rw [if_pos k13] at hR
        have hj3 := hX3.lt (by rw [k13]; decide)
        have hX4 := hX3.next hj3
        simp only [↓zwq, zpq, zgq, zhq, eq_sto, eq_kill, eq_zSto, eq_mset, eq_zGd, zsq, Int.reduceToNat, List.length_cons, List.length_nil, Nat.reduceAdd, Nat.reduceLT, Nat.reduceEqDiff, Int.reduceLT, Int.reduceLE, Int.reduceEq, Int.reduceNe, Int.reduceNeg, Int.reduceAdd, Int.reduceSub, Int.reduceMul, if_true, if_false, ite_true, ite_false, reduceIte, true_and, and_true, true_implies, forall_const, decide_eq_true_eq, decide_eq_false_iff_not, Bool.not_eq_true', Bool.not_eq_false', Bool.and_eq_true, Bool.or_eq_true, Bool.and_eq_false_iff, Bool.or_eq_false_iff, Bool.not_eq_true, Bool.not_eq_false, Bool.false_eq_true, Bool.true_eq_false, false_implies, implies_true, b2i_ne, b2i_eq, zB_b2i, not_true_eq_false, not_false_eq_true, List.drop_zero, List.drop_succ_cons, zIn_iff, zI8_iff, or_false, false_or, or_true, true_or, and_false, false_and, Decidable.not_not, hln, laq hL1, Int.toNat_natCast, hin2, s147 (d + 7) hX3, sg_t (slit tp n j2).2.2.2.2.1 k13]
        have fz : YFr A N1 (mset τ 101 l (m : Int)) (mset (mset τ 101 l (m : Int)) 90 6 ((j2 + 1 : Nat) : Int)) := YFr.at90 (Or.inl rfl)
        have fzl : ∀ f k, k < 4000 * A + N1 → yr (mset (mset τ 101 l (m : Int)) 90 6 ((j2 + 1 : Nat) : Int)) f k = yr (mset τ 101 l (m : Int)) f k := fun f k a => fz.2 f k (Or.inl a)
        refine ih (j2 + 1) N1 m _ (by omega) hX4 (by omega) (by omega) x4 ?_ ?_
        · unfold Is; rw [fzl 4 m x4]; exact m4
        · cases hq2 : pAs (kdT tp n) F E f (j2 + 1) with
          | error x => rw [hq2, pBd_er] at hR; exact fun υ hυ => hR υ ⟨(fL.1.tr fz.1).tr hυ.1, hυ.2⟩
          | ok x =>
            obtain ⟨as, k⟩ := x
            rw [hq2, pBd_ok] at hR
            intro v la N' υ y1 y2 y3 y4 y5 y6 y7
            refine hR (m : Int) la N' υ y1 ⟨(fL.1.tr fz.1).tr y2.1, fun f k a b => ?_⟩ ?_ (by omega) (by omega) (by omega) ?_
            · rw [y2.2 f k (by omega) (by omega), fz.2 f k (by omega)]; exact fL.2 f k a b
            · unfold Is; rw [y2.2 4 l (Or.inl (by omega)) (by omega), fzl 4 l (by omega)]; exact l4
            · refine ⟨m, rfl, xl, by omega, elm υ N' (by omega) (fun f k a b c => ?_), ?_⟩
              · rw [y2.2 f k (Or.inl b) c, fzl f k b, old f k a]
              · rw [show yr υ 4 m = v from y3]
                exact rM_up _ _ _ _ _ _ (by omega) (Nat.le_refl _) (fun f k a b => rfl) y7
      · rw [if_neg k13] at hR
        simp only [↓zwq, zpq, zgq, zhq, eq_sto, eq_kill, eq_zSto, eq_mset, eq_zGd, zsq, Int.reduceToNat, List.length_cons, List.length_nil, Nat.reduceAdd, Nat.reduceLT, Nat.reduceEqDiff, Int.reduceLT, Int.reduceLE, Int.reduceEq, Int.reduceNe, Int.reduceNeg, Int.reduceAdd, Int.reduceSub, Int.reduceMul, if_true, if_false, ite_true, ite_false, reduceIte, true_and, and_true, true_implies, forall_const, decide_eq_true_eq, decide_eq_false_iff_not, Bool.not_eq_true', Bool.not_eq_false', Bool.and_eq_true, Bool.or_eq_true, Bool.and_eq_false_iff, Bool.or_eq_false_iff, Bool.not_eq_true, Bool.not_eq_false, Bool.false_eq_true, Bool.true_eq_false, false_implies, implies_true, b2i_ne, b2i_eq, zB_b2i, not_true_eq_false, not_false_eq_true, List.drop_zero, List.drop_succ_cons, zIn_iff, zI8_iff, or_false, false_or, or_true, true_or, and_false, false_and, Decidable.not_not, hln, laq hL1, Int.toNat_natCast, hin2, s147 (d + 7) hX3, sg_f (slit tp n j2).2.2.2.2.1 k13]
        refine hR (m : Int) m N1 _ hX3 fL l4 (by omega) x5 (by omega) ?_
        refine ⟨m, rfl, xl, x4, elm _ N1 (Nat.le_refl _) (fun f k a b c => old f k a), ?_⟩
        rw [show yr (mset τ 101 l (m : Int)) 4 m = -1 from m4]
        rfl
/-- the first one too -/
theorem mAlts1 (d D0 F : Nat) (hF : e ≤ F) (hE : HMx tp n e A D0 o E) (hd : D0 ≤ d + 8) (c1v : zTV) (M : Nat) (R T : zK) (K : zV) (f j N : Nat) (σ : Mem) (hf : e - j ≤ f) (h : MP tp n e A j o N σ) (hN : N < 2 * j) (hM0 : 4000 * A ≤ M) (hM : M < 4000 * A + N)
    (hR : match pAs (kdT tp n) F E (f + 1) j with
      | .ok (as, k) => ∀ (v : Int) (la N' : Nat) (τ : Mem), MP tp n e A k o N' τ → Fr wQ σ τ → (∀ g q, (q < 4000 * A + N ∨ 4000 * A + 4000 ≤ q) → ¬ (g = 2 ∧ q = M) → yr τ g q = yr σ g q) → Is (yr τ 2 M) v → N ≤ N' → N' + 2 * j ≤ N + 2 * k → j < k → rM (kdT tp n) (tvT tp n A) (ppT tp n A) (yr τ) (4000 * A + N) (4000 * A + N') as v → K [(3, 90), c1v, (1, (M : Int)), (1, (la : Int)), (0, 0)] τ
      | .error (f, k) => ∀ τ, MErr tp n f k σ τ → T 3 τ) :
    zDoW (sBlk 4 (sSeq (sSt 1 4 (eCall 161 [(eP (pL 3 0))]))
  (sSeq (sIfE (cP (k0 .lt (pL 1 3)))
  (sSe 1 (eP (p1 (oGf 6 13 3) (pL 3 0))) (eP (pL 1 2)) (eP (pL 1 4)))
  (sSe 1 (eP (p1 (oGf 6 15 3) (pL 3 0))) (eP (pL 1 3)) (eP (pL 1 4))))
  (sSt 1 3 (eP (pL 1 4))))))
  (c0 .ne (eCall 147 [(eP (pL 3 0)), (eP (pI 59))])) (zCallD (d + 9)) [(3, 90), c1v, (1, (M : Int)), (1, -1), (0, 0)] σ K R T := by
  have hL := h.lay
  have hje := h.2.2.2.2
  have he := h.1.2.2.1
  have hA := h.1.1.2.2.1
  refine zDoW_in (zCallD_mono _) ?_
  simp only [↓zwq, zpq, zgq, zhq, eq_sto, eq_kill, eq_zSto, eq_mset, eq_zGd, zsq, Int.reduceToNat, List.length_cons, List.length_nil, Nat.reduceAdd, Nat.reduceLT, Nat.reduceEqDiff, Int.reduceLT, Int.reduceLE, Int.reduceEq, Int.reduceNe, Int.reduceNeg, Int.reduceAdd, Int.reduceSub, Int.reduceMul, if_true, if_false, ite_true, ite_false, reduceIte, true_and, and_true, true_implies, forall_const, decide_eq_true_eq, decide_eq_false_iff_not, Bool.not_eq_true', Bool.not_eq_false', Bool.and_eq_true, Bool.or_eq_true, Bool.and_eq_false_iff, Bool.or_eq_false_iff, Bool.not_eq_true, Bool.not_eq_false, Bool.false_eq_true, Bool.true_eq_false, false_implies, implies_true, b2i_ne, b2i_eq, zB_b2i, not_true_eq_false, not_false_eq_true, List.drop_zero, List.drop_succ_cons, zIn_iff, zI8_iff, or_false, false_or, or_true, true_or, and_false, false_and, Decidable.not_not]
  refine m161 d D0 F hF hE hd h hN _ _ ?_
  unfold pAs at hR
  cases hq : pAlt (kdT tp n) F E j with
  | error x => rw [hq, pBd_er] at hR; exact hR
  | ok x =>
    obtain ⟨t, j2⟩ := x
    rw [hq, pBd_ok] at hR
    obtain ⟨ta, tb, rfl⟩ := pAlt_nd hq
    intro m N1 τ x1 x2 x3 xl x4 x5 x6 x7
    have hj2 := x1.2.2.2.2
    have hL1 := x1.lay
    have hin2 : (0 : Int) ≤ (M : Int) ∧ (M : Int) < ((16000 : Nat) : Int) := by omega
    have hX3 : MP tp n e A j2 o N1 (mset τ 99 M (m : Int)) := x1.setn (f := 2) rfl (by decide)
    have fS : Fr wQ σ (mset τ 99 M (m : Int)) := x2.1.set (by simp [wQ])
    have xe : ∀ g q, yr (mset τ 99 M (m : Int)) g q = if g = 2 ∧ q = M then (m : Int) else yr τ g q := fun g q => by rw [yr_set (f := 2) rfl (by decide)]
    have elm : ∀ (υ : Mem) (N' : Nat), N1 ≤ N' → (∀ f k, 4000 * A + N ≤ k → k < 4000 * A + N1 → ¬ (f = 4 ∧ k = m) → yr υ f k = yr τ f k) → rM (kdT tp n) (tvT tp n A) (ppT tp n A) (yr υ) (4000 * A + N) (4000 * A + N') (nd 8 j ta tb) (m : Int) := fun υ N' hle hy => rM_el (Or.inr (Or.inl rfl)) (Nat.le_refl _) (by omega) hy x6
    have m4 : Is (yr (mset τ 99 M (m : Int)) 4 m) (-1) := by unfold Is; rw [xe, if_neg (by omega)]; exact x7
    have old : ∀ f k, 4000 * A + N ≤ k → yr (mset τ 99 M (m : Int)) f k = yr τ f k := fun f k a => by rw [xe, if_neg (by omega)]
    have out : ∀ g q, (q < 4000 * A + N ∨ 4000 * A + 4000 ≤ q) → ¬ (g = 2 ∧ q = M) → yr (mset τ 99 M (m : Int)) g q = yr σ g q := fun g q a b => by rw [xe, if_neg b]; exact x2.2 g q a
    have at1 : yr (mset τ 99 M (m : Int)) 2 M = (m : Int) := by rw [xe, if_pos ⟨rfl, rfl⟩]
    by_cases k13 : kdT tp n j2 = 13
    · rw [if_pos k13] at hR
      have hj3 := hX3.lt (by rw [k13]; decide)
      have hX4 := hX3.next hj3
      simp only [↓zwq, zpq, zgq, zhq, eq_sto, eq_kill, eq_zSto, eq_mset, eq_zGd, zsq, Int.reduceToNat, List.length_cons, List.length_nil, Nat.reduceAdd, Nat.reduceLT, Nat.reduceEqDiff, Int.reduceLT, Int.reduceLE, Int.reduceEq, Int.reduceNe, Int.reduceNeg, Int.reduceAdd, Int.reduceSub, Int.reduceMul, if_true, if_false, ite_true, ite_false, reduceIte, true_and, and_true, true_implies, forall_const, decide_eq_true_eq, decide_eq_false_iff_not, Bool.not_eq_true', Bool.not_eq_false', Bool.and_eq_true, Bool.or_eq_true, Bool.and_eq_false_iff, Bool.or_eq_false_iff, Bool.not_eq_true, Bool.not_eq_false, Bool.false_eq_true, Bool.true_eq_false, false_implies, implies_true, b2i_ne, b2i_eq, zB_b2i, not_true_eq_false, not_false_eq_true, List.drop_zero, List.drop_succ_cons, zIn_iff, zI8_iff, or_false, false_or, or_true, true_or, and_false, false_and, Decidable.not_not, laq hL1, Int.toNat_natCast, hin2, s147 (d + 7) hX3, sg_t (slit tp n j2).2.2.2.2.1 k13]
      have fz : YFr A N1 (mset τ 99 M (m : Int)) (mset (mset τ 99 M (m : Int)) 90 6 ((j2 + 1 : Nat) : Int)) := YFr.at90 (Or.inl rfl)
      have fzl : ∀ f k, k < 4000 * A + N1 → yr (mset (mset τ 99 M (m : Int)) 90 6 ((j2 + 1 : Nat) : Int)) f k = yr (mset τ 99 M (m : Int)) f k := fun f k a => fz.2 f k (Or.inl a)
      refine mAlts d D0 F hF hE hd c1v M R T K f (j2 + 1) N1 m _ (by omega) hX4 (by omega) (by omega) x4 ?_ ?_
      · unfold Is; rw [fzl 4 m x4]; exact m4
      · cases hq2 : pAs (kdT tp n) F E f (j2 + 1) with
        | error x => rw [hq2, pBd_er] at hR; exact fun υ hυ => hR υ ⟨(fS.tr fz.1).tr hυ.1, hυ.2⟩
        | ok x =>
          obtain ⟨as, k⟩ := x
          rw [hq2, pBd_ok] at hR
          intro v la N' υ y1 y2 y3 y4 y5 y6 y7
          refine hR (m : Int) la N' υ y1 ((fS.tr fz.1).tr y2.1) (fun g q a b => ?_) ?_ (by omega) (by omega) (by omega) ?_
          · rw [y2.2 g q (by omega) (by omega), fz.2 g q (by omega)]; exact out g q a b
          · unfold Is; rw [y2.2 2 M (Or.inl (by omega)) (by omega), fzl 2 M (by omega)]; exact at1
          · refine ⟨m, rfl, xl, by omega, elm υ N' (by omega) (fun f k a b c => ?_), ?_⟩
            · rw [y2.2 f k (Or.inl b) c, fzl f k b, old f k a]
            · rw [show yr υ 4 m = v from y3]
              exact rM_up _ _ _ _ _ _ (by omega) (Nat.le_refl _) (fun f k a b => rfl) y7
    · rw [if_neg k13] at hR
      simp only [↓zwq, zpq, zgq, zhq, eq_sto, eq_kill, eq_zSto, eq_mset, eq_zGd, zsq, Int.reduceToNat, List.length_cons, List.length_nil, Nat.reduceAdd, Nat.reduceLT, Nat.reduceEqDiff, Int.reduceLT, Int.reduceLE, Int.reduceEq, Int.reduceNe, Int.reduceNeg, Int.reduceAdd, Int.reduceSub, Int.reduceMul, if_true, if_false, ite_true, ite_false, reduceIte, true_and, and_true, true_implies, forall_const, decide_eq_true_eq, decide_eq_false_iff_not, Bool.not_eq_true', Bool.not_eq_false', Bool.and_eq_true, Bool.or_eq_true, Bool.and_eq_false_iff, Bool.or_eq_false_iff, Bool.not_eq_true, Bool.not_eq_false, Bool.false_eq_true, Bool.true_eq_false, false_implies, implies_true, b2i_ne, b2i_eq, zB_b2i, not_true_eq_false, not_false_eq_true, List.drop_zero, List.drop_succ_cons, zIn_iff, zI8_iff, or_false, false_or, or_true, true_or, and_false, false_and, Decidable.not_not, laq hL1, Int.toNat_natCast, hin2, s147 (d + 7) hX3, sg_f (slit tp n j2).2.2.2.2.1 k13]
      refine hR (m : Int) m N1 _ hX3 fS out at1 (by omega) x5 (by omega) ?_
      refine ⟨m, rfl, xl, x4, elm _ N1 (Nat.le_refl _) (fun f k a b c => old f k a), ?_⟩
      rw [show yr (mset τ 99 M (m : Int)) 4 m = -1 from m4]
      rfl
end
