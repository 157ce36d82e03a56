/-! LazyForms' reader: bindings, functions, comparisons -/
/-- as xRes; the node stands last in its row -/
def xResE (tp : Nat → Int) (n e tr pr : Nat) (ml : Nat → List (List Int)) (mk : Nat → Int) (i o N : Nat) (σ : Mem) (R T : zK) : Rs → Prop
  | .ok (t, j) => ∀ (m N' : Nat) (τ : Mem), XP tp n e tr pr ml j o N' τ → XFr tr N σ τ → i < j → N ≤ m → m < N' → N' + 2 * i ≤ N + 2 * j → rX (kdT tp n) (plT tp n) (vlT tp n) mk (xr τ tr) N N' t (m : Int) → Is (xr τ tr 6 m) (-1) → R (m : Int) τ
  | .error (f, j) => ∀ τ, XErr tp n tr f j σ τ → T 13 τ
theorem pBind_nd {kd : Nat → Nat} {F i j : Nat} {E : Nat → Rs} {t : Fm} (h : pBind kd F E i = .ok (t, j)) : ∃ a b, t = nd 6 i a b := by
  unfold pBind pTo pBd at h
  split at h
  · split at h
    · cases h; exact ⟨_, _, rfl⟩
    · cases h
  · cases h
section
variable {tp : Nat → Int} {n e tr pr i o N : Nat} {ml : Nat → List (List Int)} {mk : Nat → Int} {σ : Mem} {E : Nat → Rs}
theorem trl (h : isTr tr) : (∀ j : Nat, j < 16 → (tr = j) = False) ∧ (∀ j : Nat, j < 16 → (j = tr) = False) := ⟨fun j hj => eq_false (by rcases h with h | h | h | h <;> omega), fun j hj => eq_false (by rcases h with h | h | h | h <;> omega)⟩
theorem tro (h : isTr tr) : ∀ a j : Nat, a < 16 → (a = tr + j) = False := fun a j ha => eq_false (by rcases h with h | h | h | h <;> omega)
theorem pNmF {kd : Nat → Nat} {F i j : Nat} (h1 : i ≤ j) (h2 : ∀ k, i ≤ k → k < j → kd k = 2) (h3 : kd j ≠ 2) (h4 : j - i ≤ F) : pNm kd false F i = (nmL i (j - i), j) :=
  pNm_eq F i j h1 (fun k a b => Or.inl (h2 k a b)) (fun z => z.elim h3 (fun y => absurd y.1 (by decide))) h4
theorem s46 (d : Nat) (h : XP tp n e tr pr ml i o N σ) (hN : N < 4096) (p a b c : Int) (R T : zK) : zCallD (d + 2) 46 [7, p, a, b, c] σ R T = R (N : Int) (mset (addN tr N 4 p b (-1) c σ) (tr + 8) N a) := by
  have hL := h.lay
  have ht := h.1.2.2.2.2.2.1
  have hin2 : (0 : Int) ≤ (N : Int) ∧ (N : Int) < ((4096 : Nat) : Int) := by omega
  have hA := h.addN 4 p b (-1) c
  simp only [c_46, b_46, ↓zwq, zpq, zgq, zhq, eq_sto, eq_kill, eq_zSto, eq_mset, eq_zGd, zsq, Int.reduceToNat, List.length_cons, List.length_nil, Nat.reduceAdd, Nat.reduceLT, Nat.reduceEqDiff, Int.reduceLT, Int.reduceLE, Int.reduceEq, Int.reduceNe, Int.reduceNeg, Int.reduceAdd, Int.reduceSub, Int.reduceMul, if_true, if_false, ite_true, ite_false, reduceIte, true_and, and_true, true_implies, forall_const, decide_eq_true_eq, decide_eq_false_iff_not, Bool.not_eq_true', Bool.not_eq_false', Bool.and_eq_true, Bool.or_eq_true, Bool.and_eq_false_iff, Bool.or_eq_false_iff, Bool.not_eq_true, Bool.not_eq_false, Bool.false_eq_true, Bool.true_eq_false, false_implies, implies_true, b2i_ne, b2i_eq, zB_b2i, not_true_eq_false, not_false_eq_true, List.drop_zero, List.drop_succ_cons, zIn_iff, zI8_iff, or_false, false_or, or_true, true_or, and_false, false_and, Decidable.not_not, laq hL, h.1.2.2.2.1, Int.toNat_natCast, trs ht, s30 d hL ht h.2.2.2.1 hN, laq hA.lay, hA.1.2.2.2.1, trq hA.lay ht, hin2]
theorem s44 (d D0 F : Nat) (hF : e ≤ F) (hE : HEx tp n e tr pr ml mk D0 o E) (hd : D0 ≤ d + 8) (hml : ∀ k, k < e → kdT tp n k ≠ 3 → ml (k + 1) = ml k) (h : XP tp n e tr pr ml i o N σ) (hk : kdT tp n i = 2) (hN : N ≤ 2 * i) (R T : zK)
    (hR : xResE tp n e tr pr ml mk i o N σ R T (pBind (kdT tp n) F E i)) : zCallD (d + 9) 44 [7] σ R T := by
  have hL := h.lay
  have ht := h.1.2.2.2.2.2.1
  have hie := h.2.2.2.2.1
  have he := h.1.2.2.1
  have hi := h.lt (by rw [hk]; decide)
  have ib : i < 2147483647 := by omega
  have hin0 : (0 : Int) ≤ (i : Int) ∧ (i : Int) < ((2002 : Nat) : Int) := by omega
  have hX := h.next hi (hml i hi (by rw [hk]; decide))
  simp only [c_44, b_44, ↓zwq, zpq, zgq, zhq, eq_sto, eq_kill, eq_zSto, eq_mset, eq_zGd, zsq, Int.reduceToNat, List.length_cons, List.length_nil, Nat.reduceAdd, Nat.reduceLT, Nat.reduceEqDiff, Int.reduceLT, Int.reduceLE, Int.reduceEq, Int.reduceNe, Int.reduceNeg, Int.reduceAdd, Int.reduceSub, Int.reduceMul, if_true, if_false, ite_true, ite_false, reduceIte, true_and, and_true, true_implies, forall_const, decide_eq_true_eq, decide_eq_false_iff_not, Bool.not_eq_true', Bool.not_eq_false', Bool.and_eq_true, Bool.or_eq_true, Bool.and_eq_false_iff, Bool.or_eq_false_iff, Bool.not_eq_true, Bool.not_eq_false, Bool.false_eq_true, Bool.true_eq_false, false_implies, implies_true, b2i_ne, b2i_eq, zB_b2i, not_true_eq_false, not_false_eq_true, List.drop_zero, List.drop_succ_cons, zIn_iff, zI8_iff, or_false, false_or, or_true, true_or, and_false, false_and, Decidable.not_not, laq hL, h.2.1, w32s ib]
  refine xNames44 (d + 5) hX (by omega) hml _ _ R T (fun j τ hij hkn hkj x1 x2 hrow => ?_)
  have hje := x1.2.2.2.2.1
  have hp := pNmF (F := F) hij hkn hkj (by omega)
  unfold pBind at hR
  rw [hp] at hR
  dsimp only at hR
  unfold pTo at hR
  by_cases k14 : kdT tp n j = 14
  · have hj := x1.lt (by rw [k14]; decide)
    have hX2 := x1.next hj (hml j hj (by rw [k14]; decide))
    rw [if_pos k14] at hR
    simp only [↓zwq, zpq, zgq, zhq, eq_sto, eq_kill, eq_zSto, eq_mset, eq_zGd, zsq, Int.reduceToNat, List.length_cons, List.length_nil, Nat.reduceAdd, Nat.reduceLT, Nat.reduceEqDiff, Int.reduceLT, Int.reduceLE, Int.reduceEq, Int.reduceNe, Int.reduceNeg, Int.reduceAdd, Int.reduceSub, Int.reduceMul, if_true, if_false, ite_true, ite_false, reduceIte, true_and, and_true, true_implies, forall_const, decide_eq_true_eq, decide_eq_false_iff_not, Bool.not_eq_true', Bool.not_eq_false', Bool.and_eq_true, Bool.or_eq_true, Bool.and_eq_false_iff, Bool.or_eq_false_iff, Bool.not_eq_true, Bool.not_eq_false, Bool.false_eq_true, Bool.true_eq_false, false_implies, implies_true, b2i_ne, b2i_eq, zB_b2i, not_true_eq_false, not_false_eq_true, List.drop_zero, List.drop_succ_cons, zIn_iff, zI8_iff, or_false, false_or, or_true, true_or, and_false, false_and, Decidable.not_not, s39 (d + 5) x1, nlit, k14]
    refine hE (d + 8) hd (j + 1) _ _ _ _ hX2 (by omega) ?_
    unfold pBd at hR
    have fr1 : XFr tr N σ (mset τ 7 4 ((j + 1 : Nat) : Int)) := ((XFr.at7 ht (Or.inl rfl)).tr x2 (Nat.le_refl _)).tr (XFr.at7 ht (Or.inl rfl)) (Nat.le_refl _)
    cases hq : E (j + 1) with
    | error x => rw [hq] at hR; exact fun υ hυ => hR υ (XErr.pre fr1 hυ)
    | ok x =>
      obtain ⟨t, k⟩ := x
      rw [hq] at hR
      intro m N2 υ y1 y2 y3 yl y4 y5 y6
      have hke := y1.2.2.2.2.1
      have hL2 := y1.lay
      have hN2 : N2 < 4096 := by omega
      have hN3 : N2 + 1 < 4096 := by omega
      have hin2 : (0 : Int) ≤ (N2 : Int) ∧ (N2 : Int) < ((4096 : Nat) : Int) := by omega
      have hA := y1.addN 6 (plT tp n i) (-1) (m : Int) 0
      have hB : XP tp n e tr pr ml k o (N2 + 1) (mset (addN tr N2 6 (plT tp n i) (-1) (m : Int) 0 υ) (tr + 8) N2 (i : Int)) := hA.setn (f := 7) rfl (by decide)
      have fr2 : XFr tr (N + (j - (i + 1))) τ υ := (XFr.at7 ht (Or.inl rfl)).tr y2 (Nat.le_refl _)
      have fr3 : XFr tr N σ υ := fr1.tr y2 (by omega)
      have frB : XFr tr N2 υ (mset (addN tr N2 6 (plT tp n i) (-1) (m : Int) 0 υ) (tr + 8) N2 (i : Int)) := XFr.addN.setn (f := 7) rfl (by decide) (Nat.le_refl _)
      have xB : ∀ f, xr (mset (addN tr N2 6 (plT tp n i) (-1) (m : Int) 0 υ) (tr + 8) N2 (i : Int)) tr f N2 = if f = 7 then (i : Int) else xr (addN tr N2 6 (plT tp n i) (-1) (m : Int) 0 υ) tr f N2 := fun f => by
        rw [xr_set (f := 7) rfl (by decide)]; simp
      have hrow2 : Row (kdT tp n) (plT tp n) (xr υ tr) N (i + 1) (j - (i + 1)) := hrow.fr (fun f k a b => fr2.2 f k b)
      have t7 : (7 = tr + 8) = False := eq_false (by rcases ht with z | z | z | z <;> omega)
      simp only [↓zwq, zpq, zgq, zhq, eq_sto, eq_kill, eq_zSto, eq_mset, eq_zGd, zsq, Int.reduceToNat, List.length_cons, List.length_nil, Nat.reduceAdd, Nat.reduceLT, Nat.reduceEqDiff, Int.reduceLT, Int.reduceLE, Int.reduceEq, Int.reduceNe, Int.reduceNeg, Int.reduceAdd, Int.reduceSub, Int.reduceMul, if_true, if_false, ite_true, ite_false, reduceIte, true_and, and_true, true_implies, forall_const, decide_eq_true_eq, decide_eq_false_iff_not, Bool.not_eq_true', Bool.not_eq_false', Bool.and_eq_true, Bool.or_eq_true, Bool.and_eq_false_iff, Bool.or_eq_false_iff, Bool.not_eq_true, Bool.not_eq_false, Bool.false_eq_true, Bool.true_eq_false, false_implies, implies_true, b2i_ne, b2i_eq, zB_b2i, not_true_eq_false, not_false_eq_true, List.drop_zero, List.drop_succ_cons, zIn_iff, zI8_iff, or_false, false_or, or_true, true_or, and_false, false_and, Decidable.not_not, laq hL2, y1.1.2.2.2.1, Int.toNat_natCast, y1.1.2.1 i hie, hin0, trs ht, s30 (d + 7) hL2 ht y1.2.2.2.1 hN2, laq hA.lay, hA.1.2.2.2.1, trq hA.lay ht, hin2, t7, hA.1.2.1 i hie, s46 (d + 6) hB hN3]
      by_cases c0 : j - (i + 1) = 0
      · have c0' : (0 < ((j - (i + 1) : Nat) : Int)) = False := eq_false (by omega)
        simp only [c0', false_implies, true_and, not_false_eq_true, true_implies, forall_const]
        rw [c0] at hR
        refine hR N2 (N2 + 1) _ hB (fr3.tr frB (by omega)) (by omega) (by omega) (Nat.lt_succ_self _) (by omega) ?_ (by unfold Is; rw [xB, if_neg (by decide), xr_add]; simp)
        refine ⟨N2, rfl, by omega, Nat.lt_succ_self _, ?_⟩
        simp only [xB, xr_add]
        simp [nmL, fLen]
        exact rX_up _ _ _ _ _ _ (by omega) (Nat.le_refl _) (fun f k a b => frB.2 f k b) y6
      · have c0' : (0 < ((j - (i + 1) : Nat) : Int)) = True := eq_true (by omega)
        have hC := hB.addN 4 (plT tp n i) ((j - (i + 1) : Nat) : Int) (-1) (m : Int)
        have hC2 : XP tp n e tr pr ml k o (N2 + 1 + 1) (mset (addN tr (N2 + 1) 4 (plT tp n i) ((j - (i + 1) : Nat) : Int) (-1) (m : Int) (mset (addN tr N2 6 (plT tp n i) (-1) (m : Int) 0 υ) (tr + 8) N2 (i : Int))) (tr + 8) (N2 + 1) (N : Int)) := hC.setn (f := 7) rfl (by decide)
        simp only [c0', c0, if_false, true_implies, not_true_eq_false, false_implies, and_true, laq hC2.lay, trq hA.lay ht, trs ht, hin2, ↓zwq, zpq, zgq, zhq, eq_sto, eq_kill, eq_zSto, eq_mset, eq_zGd, zsq, Int.reduceToNat, List.length_cons, List.length_nil, Nat.reduceAdd, Nat.reduceLT, Nat.reduceEqDiff, Int.reduceLT, Int.reduceLE, Int.reduceEq, Int.reduceNe, Int.reduceNeg, Int.reduceAdd, Int.reduceSub, Int.reduceMul, if_true, if_false, ite_true, ite_false, reduceIte, true_and, and_true, true_implies, forall_const, decide_eq_true_eq, decide_eq_false_iff_not, Bool.not_eq_true', Bool.not_eq_false', Bool.and_eq_true, Bool.or_eq_true, Bool.and_eq_false_iff, Bool.or_eq_false_iff, Bool.not_eq_true, Bool.not_eq_false, Bool.false_eq_true, Bool.true_eq_false, false_implies, implies_true, b2i_ne, b2i_eq, zB_b2i, not_true_eq_false, not_false_eq_true, List.drop_zero, List.drop_succ_cons, zIn_iff, zI8_iff, or_false, false_or, or_true, true_or, and_false, false_and, Decidable.not_not, Int.toNat_natCast]
        have fC : XFr tr (N2 + 1) (mset (addN tr N2 6 (plT tp n i) (-1) (m : Int) 0 υ) (tr + 8) N2 (i : Int)) (mset (addN tr (N2 + 1) 4 (plT tp n i) ((j - (i + 1) : Nat) : Int) (-1) (m : Int) (mset (addN tr N2 6 (plT tp n i) (-1) (m : Int) 0 υ) (tr + 8) N2 (i : Int))) (tr + 8) (N2 + 1) (N : Int)) := XFr.addN.setn (f := 7) rfl (by decide) (Nat.le_refl _)
        have xC : ∀ f, xr (mset (addN tr (N2 + 1) 4 (plT tp n i) ((j - (i + 1) : Nat) : Int) (-1) (m : Int) (mset (addN tr N2 6 (plT tp n i) (-1) (m : Int) 0 υ) (tr + 8) N2 (i : Int))) (tr + 8) (N2 + 1) (N : Int)) tr f (N2 + 1) = if f = 7 then (N : Int) else xr (addN tr (N2 + 1) 4 (plT tp n i) ((j - (i + 1) : Nat) : Int) (-1) (m : Int) (mset (addN tr N2 6 (plT tp n i) (-1) (m : Int) 0 υ) (tr + 8) N2 (i : Int))) tr f (N2 + 1) := fun f => by
          rw [xr_set (f := 7) rfl (by decide)]; simp
        simp only [trl ht, tro ht, Nat.reduceLT, if_false, Int.reduceLT, Int.reduceToNat, zsq, hin0, true_and, and_true, hA.1.2.1 i hie]
        have x2C : ∀ f, xr (mset (addN tr (N2 + 1) 4 (plT tp n i) ((j - (i + 1) : Nat) : Int) (-1) (m : Int) (mset (addN tr N2 6 (plT tp n i) (-1) (m : Int) 0 υ) (tr + 8) N2 (i : Int))) (tr + 8) (N2 + 1) (N : Int)) tr f N2 = if f = 7 then (i : Int) else xr (addN tr N2 6 (plT tp n i) (-1) (m : Int) 0 υ) tr f N2 := fun f => by rw [fC.2 f N2 (Nat.lt_succ_self _), xB]
        have fCl : ∀ f k, k < N2 → xr (mset (addN tr (N2 + 1) 4 (plT tp n i) ((j - (i + 1) : Nat) : Int) (-1) (m : Int) (mset (addN tr N2 6 (plT tp n i) (-1) (m : Int) 0 υ) (tr + 8) N2 (i : Int))) (tr + 8) (N2 + 1) (N : Int)) tr f k = xr υ tr f k := fun f k hk => by rw [fC.2 f k (by omega), frB.2 f k hk]
        have fr4 : XFr tr N σ (mset (addN tr (N2 + 1) 4 (plT tp n i) ((j - (i + 1) : Nat) : Int) (-1) (m : Int) (mset (addN tr N2 6 (plT tp n i) (-1) (m : Int) 0 υ) (tr + 8) N2 (i : Int))) (tr + 8) (N2 + 1) (N : Int)) := (fr3.tr frB (by omega)).tr fC (by omega)
        generalize (mset (addN tr (N2 + 1) 4 (plT tp n i) ((j - (i + 1) : Nat) : Int) (-1) (m : Int) (mset (addN tr N2 6 (plT tp n i) (-1) (m : Int) 0 υ) (tr + 8) N2 (i : Int))) (tr + 8) (N2 + 1) (N : Int)) = ρ at hC2 xC x2C fCl fr4 ⊢
        refine hR N2 (N2 + 1 + 1) _ (hC2.setn (f := 3) rfl (by decide)) (fr4.setn (f := 3) rfl (by decide) (by omega)) (by omega) (by omega) (by omega) (by omega) ?_ (by unfold Is; rw [xr_set (f := 3) rfl (by decide), if_neg (fun z => absurd z.1 (by decide)), x2C, if_neg (by decide), xr_add]; simp)
        have xe : ∀ f g, xr (mset ρ (tr + 4) N2 ((N2 + 1 : Nat) : Int)) tr f g = if f = 3 ∧ g = N2 then ((N2 + 1 : Nat) : Int) else xr ρ tr f g := fun f g => by rw [xr_set (f := 3) rfl (by decide)]
        have fl : ∀ f k, k < N2 → xr (mset ρ (tr + 4) N2 ((N2 + 1 : Nat) : Int)) tr f k = xr υ tr f k := fun f k hk => by rw [xe, if_neg (by omega)]; exact fCl f k hk
        have ha : rX (kdT tp n) (plT tp n) (vlT tp n) mk (xr (mset ρ (tr + 4) N2 ((N2 + 1 : Nat) : Int)) tr) N N2 (nmL (i + 1) (j - (i + 1))) (N : Int) := by
          have z := rX_row (kd := kdT tp n) (pl := plT tp n) (vl := vlT tp n) (mk := mk) (lo := N) (hi := N2) _ N (i + 1) (Nat.le_refl _) (by omega) hrow2
          rw [if_neg c0] at z
          exact rX_up _ _ _ _ _ _ (Nat.le_refl _) (Nat.le_refl _) (fun f k a b => fl f k b) z
        have hb : rX (kdT tp n) (plT tp n) (vlT tp n) mk (xr (mset ρ (tr + 4) N2 ((N2 + 1 : Nat) : Int)) tr) N N2 t (m : Int) := rX_up _ _ _ _ _ _ (by omega) (Nat.le_refl _) (fun f k a b => fl f k b) y6
        have ne1 : ¬ (N2 + 1 = N2) := by omega
        have hpos : 0 < fLen (nmL (i + 1) (j - (i + 1))) := by rw [nmL_len]; omega
        have hN0 : ¬ fLen (nmL (i + 1) (j - (i + 1))) = 0 := by omega
        refine ⟨N2, rfl, by omega, by omega, ?_⟩
        have e0 : ∀ f, f ≠ 3 → xr (mset ρ (tr + 4) N2 ((N2 + 1 : Nat) : Int)) tr f N2 = if f = 7 then (i : Int) else xr (addN tr N2 6 (plT tp n i) (-1) (m : Int) 0 υ) tr f N2 := fun f hf => by rw [xe, if_neg (fun z => hf z.1)]; exact x2C f
        have e1 : ∀ f, xr (mset ρ (tr + 4) N2 ((N2 + 1 : Nat) : Int)) tr f (N2 + 1) = xr ρ tr f (N2 + 1) := fun f => by rw [xe, if_neg (fun z => ne1 z.2)]
        have e3 : xr (mset ρ (tr + 4) N2 ((N2 + 1 : Nat) : Int)) tr 3 N2 = ((N2 + 1 : Nat) : Int) := by rw [xe, if_pos ⟨rfl, rfl⟩]
        refine ⟨?_, fun _ => ?_, fun z => absurd z (by decide), fun z => absurd z (by decide), fun z => absurd z (by decide), fun z => absurd z (by decide), fun z => absurd z (by decide), fun z => absurd z (by decide), fun _ => ⟨?_, fun z => absurd z hN0, fun _ => ⟨e3, by omega, ?_, ?_, ?_, ?_, ?_⟩⟩, fun z => absurd z (by decide), fun z => absurd z (by decide), fun z => absurd z (by decide), fun z => absurd z (by decide)⟩
        · rw [e0 0 (by decide), if_neg (by decide), xr_add]; simp
        · rw [e0 1 (by decide), if_neg (by decide), xr_add]; simp
        · rw [e0 7 (by decide), if_pos rfl]
        · rw [e1, xC, if_neg (by decide), xr_add]; simp
        · rw [e1, xC, if_neg (by decide), xr_add]; simp
        · rw [e1, xC, if_neg (by decide), xr_add, nmL_len]; simp
        · rw [e1, xC, if_pos rfl]; exact ha
        · rw [e1, xC, if_neg (by decide), xr_add]; simp; exact hb
  · rw [if_neg k14] at hR
    simp only [↓zwq, zpq, zgq, zhq, eq_sto, eq_kill, eq_zSto, eq_mset, eq_zGd, zsq, Int.reduceToNat, List.length_cons, List.length_nil, Nat.reduceAdd, Nat.reduceLT, Nat.reduceEqDiff, Int.reduceLT, Int.reduceLE, Int.reduceEq, Int.reduceNe, Int.reduceNeg, Int.reduceAdd, Int.reduceSub, Int.reduceMul, if_true, if_false, ite_true, ite_false, reduceIte, true_and, and_true, true_implies, forall_const, decide_eq_true_eq, decide_eq_false_iff_not, Bool.not_eq_true', Bool.not_eq_false', Bool.and_eq_true, Bool.or_eq_true, Bool.and_eq_false_iff, Bool.or_eq_false_iff, Bool.not_eq_true, Bool.not_eq_false, Bool.false_eq_true, Bool.true_eq_false, false_implies, implies_true, b2i_ne, b2i_eq, zB_b2i, not_true_eq_false, not_false_eq_true, List.drop_zero, List.drop_succ_cons, zIn_iff, zI8_iff, or_false, false_or, or_true, true_or, and_false, false_and, Decidable.not_not, s39 (d + 5) x1, nlit, k14]
    exact hR _ (XErr.pre ((XFr.at7 ht (Or.inl rfl)).tr x2 (Nat.le_refl _)) (XErr.of x1 1))
end
