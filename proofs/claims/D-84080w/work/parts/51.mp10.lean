/-! LazyFormsModel's reader: lets, cases, expressions -/
section
variable {tp : Nat → Int} {n e A i o N : Nat} {σ : Mem} {E : Nat → Rs}
theorem m158 (d D0 F : Nat) (hF : e ≤ F) (hE : HMx tp n e A D0 o E) (hd : D0 ≤ d + 8) (h : MP tp n e A i o N σ) (hk : kdT tp n i = 5) (hN : N ≤ 2 * i) (R T : zK)
    (hR : mRes tp n e A i o N σ 0 R T (pLet (kdT tp n) F E i)) : zCallD (d + 10) 158 [90] σ R T := by
  have hL := h.lay
  have hie := h.2.2.2.2
  have he := h.1.2.2.1
  have hA := h.1.1.2.2.1
  have hi := h.lt (by rw [hk]; decide)
  have ib : i < 2147483647 := by omega
  have hN4 : N < 4000 := by omega
  have hinN : (0 : Int) ≤ ((4000 * A + N : Nat) : Int) ∧ ((4000 * A + N : Nat) : Int) < ((16000 : Nat) : Int) := by omega
  have hX := h.next hi
  have hX1 := hX.addM 4 (-1) (-1) (-1) (ppT tp n A i)
  have f1 : YFr A N σ (addM A N 4 (-1) (-1) (-1) (ppT tp n A i) (mset σ 90 6 ((i + 1 : Nat) : Int))) := (YFr.at90 (Or.inl rfl)).tr (YFr.addM hN4) (Nat.le_refl _)
  have q := fun f => yr_add (A := A) (N := N) (k := 4) (a := -1) (b := -1) (c := -1) (p := ppT tp n A i) (σ := mset σ 90 6 ((i + 1 : Nat) : Int)) f (4000 * A + N)
  obtain ⟨F', rfl⟩ : ∃ f, F = f + 1 := ⟨F - 1, by omega⟩
  simp only [c_158, b_158, ↓zwq, zpq, zgq, zhq, eq_sto, eq_kill, eq_zSto, eq_mset, eq_zGd, zsq, Int.reduceToNat, List.length_cons, List.length_nil, Nat.reduceAdd, Nat.reduceLT, Nat.reduceEqDiff, Int.reduceLT, Int.reduceLE, Int.reduceEq, Int.reduceNe, Int.reduceNeg, Int.reduceAdd, Int.reduceSub, Int.reduceMul, if_true, if_false, ite_true, ite_false, reduceIte, true_and, and_true, true_implies, forall_const, decide_eq_true_eq, decide_eq_false_iff_not, Bool.not_eq_true', Bool.not_eq_false', Bool.and_eq_true, Bool.or_eq_true, Bool.and_eq_false_iff, Bool.or_eq_false_iff, Bool.not_eq_true, Bool.not_eq_false, Bool.false_eq_true, Bool.true_eq_false, false_implies, implies_true, b2i_ne, b2i_eq, zB_b2i, not_true_eq_false, not_false_eq_true, List.drop_zero, List.drop_succ_cons, zIn_iff, zI8_iff, or_false, false_or, or_true, true_or, and_false, false_and, Decidable.not_not, laq hL, h.2.1, w32s ib, s144 (d + 8) hX hN4 hie]
  refine mBinds1 d D0 (F' + 1) hF hE hd _ _ R T _ F' (i + 1) (N + 1) _ (by omega) hX1 (by omega) (by omega) (by omega) ?_
  unfold pLet at hR
  cases hq : pBs (kdT tp n) (F' + 1) E (F' + 1) (i + 1) with
  | error x => rw [hq, pBd_er] at hR; exact fun τ hτ => hR τ (MErr.pre f1 hτ)
  | ok x =>
    obtain ⟨bs, j⟩ := x
    rw [hq, pBd_ok] at hR
    intro v la N1 τ x1 x2 x3 x4 x5 x6 x7 x8
    have hje := x1.2.2.2.2
    have hL1 := x1.lay
    have fr0 : YFr A N σ τ := ⟨f1.1.tr x2, fun g k hk => by rw [x3 g k (by omega) (by omega)]; exact f1.2 g k hk⟩
    simp only [↓zwq, zpq, zgq, zhq, eq_sto, eq_kill, eq_zSto, eq_mset, eq_zGd, zsq, Int.reduceToNat, List.length_cons, List.length_nil, Nat.reduceAdd, Nat.reduceLT, Nat.reduceEqDiff, Int.reduceLT, Int.reduceLE, Int.reduceEq, Int.reduceNe, Int.reduceNeg, Int.reduceAdd, Int.reduceSub, Int.reduceMul, if_true, if_false, ite_true, ite_false, reduceIte, true_and, and_true, true_implies, forall_const, decide_eq_true_eq, decide_eq_false_iff_not, Bool.not_eq_true', Bool.not_eq_false', Bool.and_eq_true, Bool.or_eq_true, Bool.and_eq_false_iff, Bool.or_eq_false_iff, Bool.not_eq_true, Bool.not_eq_false, Bool.false_eq_true, Bool.true_eq_false, false_implies, implies_true, b2i_ne, b2i_eq, zB_b2i, not_true_eq_false, not_false_eq_true, List.drop_zero, List.drop_succ_cons, zIn_iff, zI8_iff, or_false, false_or, or_true, true_or, and_false, false_and, Decidable.not_not]
    by_cases k6 : kdT tp n j = 6
    · rw [pTo_y k6] at hR
      have hj := x1.lt (by rw [k6]; decide)
      have hX2 := x1.next hj
      have fy : YFr A N1 τ (mset τ 90 6 ((j + 1 : Nat) : Int)) := YFr.at90 (Or.inl rfl)
      simp only [↓zwq, zpq, zgq, zhq, eq_sto, eq_kill, eq_zSto, eq_mset, eq_zGd, zsq, Int.reduceToNat, List.length_cons, List.length_nil, Nat.reduceAdd, Nat.reduceLT, Nat.reduceEqDiff, Int.reduceLT, Int.reduceLE, Int.reduceEq, Int.reduceNe, Int.reduceNeg, Int.reduceAdd, Int.reduceSub, Int.reduceMul, if_true, if_false, ite_true, ite_false, reduceIte, true_and, and_true, true_implies, forall_const, decide_eq_true_eq, decide_eq_false_iff_not, Bool.not_eq_true', Bool.not_eq_false', Bool.and_eq_true, Bool.or_eq_true, Bool.and_eq_false_iff, Bool.or_eq_false_iff, Bool.not_eq_true, Bool.not_eq_false, Bool.false_eq_true, Bool.true_eq_false, false_implies, implies_true, b2i_ne, b2i_eq, zB_b2i, not_true_eq_false, not_false_eq_true, List.drop_zero, List.drop_succ_cons, zIn_iff, zI8_iff, or_false, false_or, or_true, true_or, and_false, false_and, Decidable.not_not, s149 (d + 7) x1, kk_t (klit tp n j).2.2.2.2.2.2.1 k6, laq hL1]
      refine hE (d + 9) (by omega) (j + 1) _ _ _ _ hX2 (by omega) ?_
      cases hq2 : E (j + 1) with
      | error x => rw [hq2, pBd_er] at hR; exact fun υ hυ => hR υ (MErr.pre fr0 (MErr.pre fy hυ))
      | ok x =>
        obtain ⟨t, k⟩ := x
        rw [hq2, pBd_ok] at hR
        intro m N2 υ y1 y2 y3 yl y4 y5 y6
        have hke := y1.2.2.2.2
        have frU : YFr A N1 τ υ := fy.tr y2 (Nat.le_refl _)
        simp only [↓zwq, zpq, zgq, zhq, eq_sto, eq_kill, eq_zSto, eq_mset, eq_zGd, zsq, Int.reduceToNat, List.length_cons, List.length_nil, Nat.reduceAdd, Nat.reduceLT, Nat.reduceEqDiff, Int.reduceLT, Int.reduceLE, Int.reduceEq, Int.reduceNe, Int.reduceNeg, Int.reduceAdd, Int.reduceSub, Int.reduceMul, if_true, if_false, ite_true, ite_false, reduceIte, true_and, and_true, true_implies, forall_const, decide_eq_true_eq, decide_eq_false_iff_not, Bool.not_eq_true', Bool.not_eq_false', Bool.and_eq_true, Bool.or_eq_true, Bool.and_eq_false_iff, Bool.or_eq_false_iff, Bool.not_eq_true, Bool.not_eq_false, Bool.false_eq_true, Bool.true_eq_false, false_implies, implies_true, b2i_ne, b2i_eq, zB_b2i, not_true_eq_false, not_false_eq_true, List.drop_zero, List.drop_succ_cons, zIn_iff, zI8_iff, or_false, false_or, or_true, true_or, and_false, false_and, Decidable.not_not, hinN, Int.toNat_natCast]
        have hB : MP tp n e A k o N2 (mset υ 99 (4000 * A + N) (m : Int)) := y1.setn (f := 2) rfl (by decide)
        have fB : YFr A N σ (mset υ 99 (4000 * A + N) (m : Int)) := (fr0.tr frU (by omega)).setn (f := 2) rfl (by decide) (Nat.le_refl _) (by omega)
        have xe : ∀ f g, yr (mset υ 99 (4000 * A + N) (m : Int)) f g = if f = 2 ∧ g = 4000 * A + N then (m : Int) else yr υ f g := fun f g => by rw [yr_set (f := 2) rfl (by decide)]
        have bl : rM (kdT tp n) (tvT tp n A) (ppT tp n A) (yr (mset υ 99 (4000 * A + N) (m : Int))) (4000 * A + N) (4000 * A + N2) bs v := rM_up _ _ _ _ _ _ (by omega) (by omega) (fun f k a b => by rw [xe, if_neg (by omega)]; exact frU.2 f k (Or.inl b)) x8
        have bd : rM (kdT tp n) (tvT tp n A) (ppT tp n A) (yr (mset υ 99 (4000 * A + N) (m : Int))) (4000 * A + N) (4000 * A + N2) t (m : Int) := rM_up _ _ _ _ _ _ (by omega) (Nat.le_refl _) (fun f k a b => by rw [xe, if_neg (by omega)]) y6
        have v2 : yr (mset υ 99 (4000 * A + N) (m : Int)) 2 (4000 * A + N) = (m : Int) := by rw [xe, if_pos ⟨rfl, rfl⟩]
        have v1 : yr (mset υ 99 (4000 * A + N) (m : Int)) 1 (4000 * A + N) = v := by rw [xe, if_neg (fun z => absurd z.1 (by decide)), frU.2 1 _ (Or.inl (by omega))]; exact x4
        have vf : ∀ f, f ≠ 1 → f ≠ 2 → yr (mset υ 99 (4000 * A + N) (m : Int)) f (4000 * A + N) = yr (addM A N 4 (-1) (-1) (-1) (ppT tp n A i) (mset σ 90 6 ((i + 1 : Nat) : Int))) f (4000 * A + N) := fun f a b => by
          rw [xe, if_neg (fun z => b z.1), frU.2 f _ (Or.inl (by omega))]
          exact x3 f _ (Or.inl (by omega)) (fun z => a z.1)
        refine hR (4000 * A + N) N2 _ hB fB (by omega) (by omega) (by omega) (by omega) ?_
        refine ⟨4000 * A + N, rfl, Nat.le_refl _, by omega, ?_, ?_, fun z => absurd z (by decide), fun z => absurd z (by decide), fun _ => ⟨?_, ?_⟩, fun z => absurd z (by decide), fun z => absurd z (by decide), fun z => absurd z (by decide), fun z => absurd z (by decide), fun z => absurd z (by decide)⟩
        · rw [vf 0 (by decide) (by decide), q]; simp [mNk]
        · rw [vf 5 (by decide) (by decide), q]; simp
        · rw [v1]; exact bl
        · rw [v2]; exact bd
    · rw [pTo_n k6] at hR
      simp only [↓zwq, zpq, zgq, zhq, eq_sto, eq_kill, eq_zSto, eq_mset, eq_zGd, zsq, Int.reduceToNat, List.length_cons, List.length_nil, Nat.reduceAdd, Nat.reduceLT, Nat.reduceEqDiff, Int.reduceLT, Int.reduceLE, Int.reduceEq, Int.reduceNe, Int.reduceNeg, Int.reduceAdd, Int.reduceSub, Int.reduceMul, if_true, if_false, ite_true, ite_false, reduceIte, true_and, and_true, true_implies, forall_const, decide_eq_true_eq, decide_eq_false_iff_not, Bool.not_eq_true', Bool.not_eq_false', Bool.and_eq_true, Bool.or_eq_true, Bool.and_eq_false_iff, Bool.or_eq_false_iff, Bool.not_eq_true, Bool.not_eq_false, Bool.false_eq_true, Bool.true_eq_false, false_implies, implies_true, b2i_ne, b2i_eq, zB_b2i, not_true_eq_false, not_false_eq_true, List.drop_zero, List.drop_succ_cons, zIn_iff, zI8_iff, or_false, false_or, or_true, true_or, and_false, false_and, Decidable.not_not, s149 (d + 7) x1, kk_f (klit tp n j).2.2.2.2.2.2.1 k6]
      exact hR _ (MErr.pre fr0 (MErr.of x1 1))
theorem m160 (d D0 F : Nat) (hF : e ≤ F) (hE : HMx tp n e A D0 o E) (hd : D0 ≤ d + 8) (h : MP tp n e A i o N σ) (hk : kdT tp n i = 7) (hN : N ≤ 2 * i) (R T : zK)
    (hR : mRes tp n e A i o N σ 0 R T (pCase (kdT tp n) F E i)) : zCallD (d + 10) 160 [90] σ R T := by
  have hL := h.lay
  have hie := h.2.2.2.2
  have he := h.1.2.2.1
  have hA := h.1.1.2.2.1
  have hi := h.lt (by rw [hk]; decide)
  have ib : i < 2147483647 := by omega
  have hN4 : N < 4000 := by omega
  have hinN : (0 : Int) ≤ ((4000 * A + N : Nat) : Int) ∧ ((4000 * A + N : Nat) : Int) < ((16000 : Nat) : Int) := by omega
  have hX := h.next hi
  have hX1 := hX.addM 5 (-1) (-1) (-1) (ppT tp n A i)
  have f1 : YFr A N σ (addM A N 5 (-1) (-1) (-1) (ppT tp n A i) (mset σ 90 6 ((i + 1 : Nat) : Int))) := (YFr.at90 (Or.inl rfl)).tr (YFr.addM hN4) (Nat.le_refl _)
  have q := fun f => yr_add (A := A) (N := N) (k := 5) (a := -1) (b := -1) (c := -1) (p := ppT tp n A i) (σ := mset σ 90 6 ((i + 1 : Nat) : Int)) f (4000 * A + N)
  obtain ⟨F', rfl⟩ : ∃ f, F = f + 1 := ⟨F - 1, by omega⟩
  simp only [c_160, b_160, ↓zwq, zpq, zgq, zhq, eq_sto, eq_kill, eq_zSto, eq_mset, eq_zGd, zsq, Int.reduceToNat, List.length_cons, List.length_nil, Nat.reduceAdd, Nat.reduceLT, Nat.reduceEqDiff, Int.reduceLT, Int.reduceLE, Int.reduceEq, Int.reduceNe, Int.reduceNeg, Int.reduceAdd, Int.reduceSub, Int.reduceMul, if_true, if_false, ite_true, ite_false, reduceIte, true_and, and_true, true_implies, forall_const, decide_eq_true_eq, decide_eq_false_iff_not, Bool.not_eq_true', Bool.not_eq_false', Bool.and_eq_true, Bool.or_eq_true, Bool.and_eq_false_iff, Bool.or_eq_false_iff, Bool.not_eq_true, Bool.not_eq_false, Bool.false_eq_true, Bool.true_eq_false, false_implies, implies_true, b2i_ne, b2i_eq, zB_b2i, not_true_eq_false, not_false_eq_true, List.drop_zero, List.drop_succ_cons, zIn_iff, zI8_iff, or_false, false_or, or_true, true_or, and_false, false_and, Decidable.not_not, laq hL, h.2.1, w32s ib, s144 (d + 8) hX hN4 hie, adq]
  refine hE (d + 9) (by omega) (i + 1) (N + 1) _ _ _ hX1 (by omega) ?_
  unfold pCase at hR
  cases hq : E (i + 1) with
  | error x => rw [hq, pBd_er] at hR; exact fun τ hτ => hR τ (MErr.pre f1 hτ)
  | ok x =>
    obtain ⟨t, j⟩ := x
    rw [hq, pBd_ok] at hR
    intro m N1 τ x1 x2 x3 xl x4 x5 x6
    have hje := x1.2.2.2.2
    have hL1 := x1.lay
    simp only [↓zwq, zpq, zgq, zhq, eq_sto, eq_kill, eq_zSto, eq_mset, eq_zGd, zsq, Int.reduceToNat, List.length_cons, List.length_nil, Nat.reduceAdd, Nat.reduceLT, Nat.reduceEqDiff, Int.reduceLT, Int.reduceLE, Int.reduceEq, Int.reduceNe, Int.reduceNeg, Int.reduceAdd, Int.reduceSub, Int.reduceMul, if_true, if_false, ite_true, ite_false, reduceIte, true_and, and_true, true_implies, forall_const, decide_eq_true_eq, decide_eq_false_iff_not, Bool.not_eq_true', Bool.not_eq_false', Bool.and_eq_true, Bool.or_eq_true, Bool.and_eq_false_iff, Bool.or_eq_false_iff, Bool.not_eq_true, Bool.not_eq_false, Bool.false_eq_true, Bool.true_eq_false, false_implies, implies_true, b2i_ne, b2i_eq, zB_b2i, not_true_eq_false, not_false_eq_true, List.drop_zero, List.drop_succ_cons, zIn_iff, zI8_iff, or_false, false_or, or_true, true_or, and_false, false_and, Decidable.not_not, hinN, Int.toNat_natCast]
    have hY : MP tp n e A j o N1 (mset τ 98 (4000 * A + N) (m : Int)) := x1.setn (f := 1) rfl (by decide)
    have fY : YFr A N σ (mset τ 98 (4000 * A + N) (m : Int)) := (f1.tr x2 (by omega)).setn (f := 1) rfl (by decide) (Nat.le_refl _) (by omega)
    have ye : ∀ f g, yr (mset τ 98 (4000 * A + N) (m : Int)) f g = if f = 1 ∧ g = 4000 * A + N then (m : Int) else yr τ f g := fun f g => by rw [yr_set (f := 1) rfl (by decide)]
    have t0 : rM (kdT tp n) (tvT tp n A) (ppT tp n A) (yr (mset τ 98 (4000 * A + N) (m : Int))) (4000 * A + (N + 1)) (4000 * A + N1) t (m : Int) := rM_up _ _ _ _ _ _ (Nat.le_refl _) (Nat.le_refl _) (fun f k a b => by rw [ye, if_neg (by omega)]) x6
    have y1' : yr (mset τ 98 (4000 * A + N) (m : Int)) 1 (4000 * A + N) = (m : Int) := by rw [ye, if_pos ⟨rfl, rfl⟩]
    have yf : ∀ f, f ≠ 1 → yr (mset τ 98 (4000 * A + N) (m : Int)) f (4000 * A + N) = yr (addM A N 5 (-1) (-1) (-1) (ppT tp n A i) (mset σ 90 6 ((i + 1 : Nat) : Int))) f (4000 * A + N) := fun f a => by rw [ye, if_neg (fun z => a z.1)]; exact x2.2 f _ (Or.inl (by omega))
    generalize mset τ 98 (4000 * A + N) (m : Int) = τ' at hY fY ye t0 y1' yf ⊢
    by_cases k8 : kdT tp n j = 8
    · rw [pTo_y k8] at hR
      have hj := hY.lt (by rw [k8]; decide)
      have hX2 := hY.next hj
      by_cases k11 : kdT tp n (j + 1) = 11
      · rw [pTo_y k11] at hR
        have hj2 := hX2.lt (by rw [k11]; decide)
        have hX3 := hX2.next hj2
        have fz : YFr A N1 τ' (mset (mset τ' 90 6 ((j + 1 : Nat) : Int)) 90 6 ((j + 1 + 1 : Nat) : Int)) := (YFr.at90 (Or.inl rfl)).tr (YFr.at90 (Or.inl rfl)) (Nat.le_refl _)
        simp only [↓zwq, zpq, zgq, zhq, eq_sto, eq_kill, eq_zSto, eq_mset, eq_zGd, zsq, Int.reduceToNat, List.length_cons, List.length_nil, Nat.reduceAdd, Nat.reduceLT, Nat.reduceEqDiff, Int.reduceLT, Int.reduceLE, Int.reduceEq, Int.reduceNe, Int.reduceNeg, Int.reduceAdd, Int.reduceSub, Int.reduceMul, if_true, if_false, ite_true, ite_false, reduceIte, true_and, and_true, true_implies, forall_const, decide_eq_true_eq, decide_eq_false_iff_not, Bool.not_eq_true', Bool.not_eq_false', Bool.and_eq_true, Bool.or_eq_true, Bool.and_eq_false_iff, Bool.or_eq_false_iff, Bool.not_eq_true, Bool.not_eq_false, Bool.false_eq_true, Bool.true_eq_false, false_implies, implies_true, b2i_ne, b2i_eq, zB_b2i, not_true_eq_false, not_false_eq_true, List.drop_zero, List.drop_succ_cons, zIn_iff, zI8_iff, or_false, false_or, or_true, true_or, and_false, false_and, Decidable.not_not, s149 (d + 7) hY, kk_t (klit tp n j).2.2.2.2.2.2.2.2 k8, s148 (d + 6) hX2, sg_t (slit tp n (j + 1)).2.2.1 k11]
        refine mAlts1 d D0 (F' + 1) hF hE hd _ _ R T _ F' (j + 1 + 1) N1 _ (by omega) hX3 (by omega) (by omega) (by omega) ?_
        cases hq2 : pAs (kdT tp n) (F' + 1) E (F' + 1) (j + 2) with
        | error x => rw [hq2, pBd_er] at hR; exact fun υ hυ => hR υ (MErr.pre fY (MErr.pre fz hυ))
        | ok x =>
          obtain ⟨as, k⟩ := x
          rw [hq2, pBd_ok] at hR
          intro v la N2 υ y1 y2 y3 y4 y5 y6 y7 y8
          have hke := y1.2.2.2.2
          have fr0 : YFr A N σ υ := ⟨(fY.1.tr fz.1).tr y2, fun g k hk => by rw [y3 g k (by omega) (by omega), fz.2 g k (by omega)]; exact fY.2 g k hk⟩
          have uf : ∀ f g, f ≠ 2 → g < 4000 * A + N1 → yr υ f g = yr τ' f g := fun f g a b => by rw [y3 f g (Or.inl b) (fun z => a z.1)]; exact fz.2 f g (Or.inl b)
          have ul : ∀ f g, g < 4000 * A + N1 → g ≠ 4000 * A + N → yr υ f g = yr τ' f g := fun f g b a => by rw [y3 f g (Or.inl b) (fun z => a z.2)]; exact fz.2 f g (Or.inl b)
          simp only [↓zwq, zpq, zgq, zhq, eq_sto, eq_kill, eq_zSto, eq_mset, eq_zGd, zsq, Int.reduceToNat, List.length_cons, List.length_nil, Nat.reduceAdd, Nat.reduceLT, Nat.reduceEqDiff, Int.reduceLT, Int.reduceLE, Int.reduceEq, Int.reduceNe, Int.reduceNeg, Int.reduceAdd, Int.reduceSub, Int.reduceMul, if_true, if_false, ite_true, ite_false, reduceIte, true_and, and_true, true_implies, forall_const, decide_eq_true_eq, decide_eq_false_iff_not, Bool.not_eq_true', Bool.not_eq_false', Bool.and_eq_true, Bool.or_eq_true, Bool.and_eq_false_iff, Bool.or_eq_false_iff, Bool.not_eq_true, Bool.not_eq_false, Bool.false_eq_true, Bool.true_eq_false, false_implies, implies_true, b2i_ne, b2i_eq, zB_b2i, not_true_eq_false, not_false_eq_true, List.drop_zero, List.drop_succ_cons, zIn_iff, zI8_iff, or_false, false_or, or_true, true_or, and_false, false_and, Decidable.not_not]
          by_cases k12 : kdT tp n k = 12
          · rw [pTo_y k12] at hR
            have hk' := y1.lt (by rw [k12]; decide)
            have hX4 := y1.next hk'
            have fw : YFr A N2 υ (mset υ 90 6 ((k + 1 : Nat) : Int)) := YFr.at90 (Or.inl rfl)
            have wl : ∀ f g, g < 4000 * A + N2 → yr (mset υ 90 6 ((k + 1 : Nat) : Int)) f g = yr υ f g := fun f g a => fw.2 f g (Or.inl a)
            simp only [↓zwq, zpq, zgq, zhq, eq_sto, eq_kill, eq_zSto, eq_mset, eq_zGd, zsq, Int.reduceToNat, List.length_cons, List.length_nil, Nat.reduceAdd, Nat.reduceLT, Nat.reduceEqDiff, Int.reduceLT, Int.reduceLE, Int.reduceEq, Int.reduceNe, Int.reduceNeg, Int.reduceAdd, Int.reduceSub, Int.reduceMul, if_true, if_false, ite_true, ite_false, reduceIte, true_and, and_true, true_implies, forall_const, decide_eq_true_eq, decide_eq_false_iff_not, Bool.not_eq_true', Bool.not_eq_false', Bool.and_eq_true, Bool.or_eq_true, Bool.and_eq_false_iff, Bool.or_eq_false_iff, Bool.not_eq_true, Bool.not_eq_false, Bool.false_eq_true, Bool.true_eq_false, false_implies, implies_true, b2i_ne, b2i_eq, zB_b2i, not_true_eq_false, not_false_eq_true, List.drop_zero, List.drop_succ_cons, zIn_iff, zI8_iff, or_false, false_or, or_true, true_or, and_false, false_and, Decidable.not_not, s148 (d + 6) y1, sg_t (slit tp n k).2.2.2.1 k12]
            refine hR (4000 * A + N) N2 _ hX4 (fr0.tr fw (by omega)) (by omega) (by omega) (by omega) (by omega) ?_
            have ta : rM (kdT tp n) (tvT tp n A) (ppT tp n A) (yr (mset υ 90 6 ((k + 1 : Nat) : Int))) (4000 * A + N) (4000 * A + N2) t (m : Int) := rM_up _ _ _ _ _ _ (by omega) (by omega) (fun f g a b => by rw [wl f g (by omega)]; exact ul f g b (by omega)) t0
            have tb : rM (kdT tp n) (tvT tp n A) (ppT tp n A) (yr (mset υ 90 6 ((k + 1 : Nat) : Int))) (4000 * A + N) (4000 * A + N2) as v := rM_up _ _ _ _ _ _ (by omega) (Nat.le_refl _) (fun f g a b => wl f g b) y8
            have e2 : yr (mset υ 90 6 ((k + 1 : Nat) : Int)) 2 (4000 * A + N) = v := by rw [wl 2 _ (by omega)]; exact y4
            have e1 : yr (mset υ 90 6 ((k + 1 : Nat) : Int)) 1 (4000 * A + N) = (m : Int) := by rw [wl 1 _ (by omega), uf 1 _ (by decide) (by omega)]; exact y1'
            have ef : ∀ f, f ≠ 1 → f ≠ 2 → yr (mset υ 90 6 ((k + 1 : Nat) : Int)) f (4000 * A + N) = yr (addM A N 5 (-1) (-1) (-1) (ppT tp n A i) (mset σ 90 6 ((i + 1 : Nat) : Int))) f (4000 * A + N) := fun f a b => by rw [wl f _ (by omega), uf f _ b (by omega)]; exact yf f a
            refine ⟨4000 * A + N, rfl, Nat.le_refl _, by omega, ?_, ?_, fun z => absurd z (by decide), fun z => absurd z (by decide), fun _ => ⟨?_, ?_⟩, fun z => absurd z (by decide), fun z => absurd z (by decide), fun z => absurd z (by decide), fun z => absurd z (by decide), fun z => absurd z (by decide)⟩
            · rw [ef 0 (by decide) (by decide), q]; simp [mNk]
            · rw [ef 5 (by decide) (by decide), q]; simp
            · rw [e1]; exact ta
            · rw [e2]; exact tb
          · rw [pTo_n k12] at hR
            simp only [↓zwq, zpq, zgq, zhq, eq_sto, eq_kill, eq_zSto, eq_mset, eq_zGd, zsq, Int.reduceToNat, List.length_cons, List.length_nil, Nat.reduceAdd, Nat.reduceLT, Nat.reduceEqDiff, Int.reduceLT, Int.reduceLE, Int.reduceEq, Int.reduceNe, Int.reduceNeg, Int.reduceAdd, Int.reduceSub, Int.reduceMul, if_true, if_false, ite_true, ite_false, reduceIte, true_and, and_true, true_implies, forall_const, decide_eq_true_eq, decide_eq_false_iff_not, Bool.not_eq_true', Bool.not_eq_false', Bool.and_eq_true, Bool.or_eq_true, Bool.and_eq_false_iff, Bool.or_eq_false_iff, Bool.not_eq_true, Bool.not_eq_false, Bool.false_eq_true, Bool.true_eq_false, false_implies, implies_true, b2i_ne, b2i_eq, zB_b2i, not_true_eq_false, not_false_eq_true, List.drop_zero, List.drop_succ_cons, zIn_iff, zI8_iff, or_false, false_or, or_true, true_or, and_false, false_and, Decidable.not_not, s148 (d + 6) y1, sg_f (slit tp n k).2.2.2.1 k12]
            exact hR _ (MErr.pre fr0 (MErr.of y1 1))
      · rw [pTo_n k11] at hR
        simp only [↓zwq, zpq, zgq, zhq, eq_sto, eq_kill, eq_zSto, eq_mset, eq_zGd, zsq, Int.reduceToNat, List.length_cons, List.length_nil, Nat.reduceAdd, Nat.reduceLT, Nat.reduceEqDiff, Int.reduceLT, Int.reduceLE, Int.reduceEq, Int.reduceNe, Int.reduceNeg, Int.reduceAdd, Int.reduceSub, Int.reduceMul, if_true, if_false, ite_true, ite_false, reduceIte, true_and, and_true, true_implies, forall_const, decide_eq_true_eq, decide_eq_false_iff_not, Bool.not_eq_true', Bool.not_eq_false', Bool.and_eq_true, Bool.or_eq_true, Bool.and_eq_false_iff, Bool.or_eq_false_iff, Bool.not_eq_true, Bool.not_eq_false, Bool.false_eq_true, Bool.true_eq_false, false_implies, implies_true, b2i_ne, b2i_eq, zB_b2i, not_true_eq_false, not_false_eq_true, List.drop_zero, List.drop_succ_cons, zIn_iff, zI8_iff, or_false, false_or, or_true, true_or, and_false, false_and, Decidable.not_not, s149 (d + 7) hY, kk_t (klit tp n j).2.2.2.2.2.2.2.2 k8, s148 (d + 6) hX2, sg_f (slit tp n (j + 1)).2.2.1 k11]
        exact hR _ (MErr.pre fY (MErr.pre (YFr.at90 (A := A) (N := N) (Or.inl rfl)) (MErr.of hX2 1)))
    · rw [pTo_n k8] at hR
      simp only [↓zwq, zpq, zgq, zhq, eq_sto, eq_kill, eq_zSto, eq_mset, eq_zGd, zsq, Int.reduceToNat, List.length_cons, List.length_nil, Nat.reduceAdd, Nat.reduceLT, Nat.reduceEqDiff, Int.reduceLT, Int.reduceLE, Int.reduceEq, Int.reduceNe, Int.reduceNeg, Int.reduceAdd, Int.reduceSub, Int.reduceMul, if_true, if_false, ite_true, ite_false, reduceIte, true_and, and_true, true_implies, forall_const, decide_eq_true_eq, decide_eq_false_iff_not, Bool.not_eq_true', Bool.not_eq_false', Bool.and_eq_true, Bool.or_eq_true, Bool.and_eq_false_iff, Bool.or_eq_false_iff, Bool.not_eq_true, Bool.not_eq_false, Bool.false_eq_true, Bool.true_eq_false, false_implies, implies_true, b2i_ne, b2i_eq, zB_b2i, not_true_eq_false, not_false_eq_true, List.drop_zero, List.drop_succ_cons, zIn_iff, zI8_iff, or_false, false_or, or_true, true_or, and_false, false_and, Decidable.not_not, s149 (d + 7) hY, kk_f (klit tp n j).2.2.2.2.2.2.2.2 k8]
      exact hR _ (MErr.pre fY (MErr.of hY 1))
end
