/-! LazyForms' reader: alts and cases -/
section
variable {tp : Nat → Int} {n e tr pr i o N : Nat} {ml : Nat → List (List Int)} {mk : Nat → Int} {σ : Mem} {E : Nat → Rs}
def altV (kd : Nat → Nat) (vl mk : Nat → Int) (i : Nat) : Int := if kd i = 3 then mk i else if kd i = 4 then vl i else if kd i = 18 then -vl (i + 1) else 0
def altL (kd : Nat → Nat) (i : Nat) : Int := if kd i = 3 then 0 else if kd i = 4 ∨ kd i = 18 then 1 else if kd i = 2 then 2 else 3
theorem xAltT (d D0 : Nat) (hE : HEx tp n e tr pr ml mk D0 o E) (hd : D0 ≤ d + 8) (hml : ∀ k, k < e → kdT tp n k ≠ 3 → ml (k + 1) = ml k) {j N1 : Nat} {τ : Mem} (hie : i ≤ e) (hij : i < j) (h : XP tp n e tr pr ml j o N1 τ) (fr0 : XFr tr N σ τ) (hl : N ≤ N1) (hb : N1 + 2 * i + 1 ≤ N + 2 * j) (hN : N ≤ 2 * i) (nl : Fm) (pv : Int) (hp1 : kdT tp n i = 24 → pv = -1) (hp2 : kdT tp n i ≠ 24 → rX (kdT tp n) (plT tp n) (vlT tp n) mk (xr τ tr) N N1 nl pv) (R T : zK)
    (hR : xResE tp n e tr pr ml mk i o N σ R T (pTo (kdT tp n) 15 j (pBd (E (j + 1)) fun t k => .ok (nd 8 i nl t, k)))) :
    (sSeq (sCall 39 [(eP (pL 3 0)), (eP (pI 15))])
  (sSeq (sSt 1 5 (eCall 49 [(eP (pL 3 0))]))
  (sSeq (sSt 1 6 (eCall 30 [(eP (p1 (oGf 2 2 3) (pL 3 0))), (eP (pI 8)), (eP (pL 1 3)), (eP (pL 1 2)), (eP (pL 1 4)), (eP (pL 1 5))]))
  (sSeq (sSe 1 (eP (p1 (oGf 5 7 3) (p1 (oGf 2 2 3) (pL 3 0)))) (eP (pL 1 6)) (eP (pL 1 1)))
  (sRet 1 (eP (pL 1 6))))))).1.2 (zCallD (d + 8)) [(3, 7), (1, (i : Int)), (1, altL (kdT tp n) i), (1, altV (kdT tp n) (vlT tp n) mk i), (1, pv), (0, 0), (0, 0)] τ zF zF zF R T := by
  have ht := h.1.2.2.2.2.2.1
  have he := h.1.2.2.1
  have hje := h.2.2.2.2.1
  by_cases k15 : kdT tp n j = 15
  · rw [pTo_y k15] at hR
    have hj := h.lt (by rw [k15]; decide)
    have hX2 := h.next hj (hml j hj (by rw [k15]; decide))
    simp only [↓zwq, zpq, zgq, zhq, eq_sto, eq_kill, eq_zSto, eq_mset, eq_zGd, zsq, Int.reduceToNat, List.length_cons, List.length_nil, Nat.reduceAdd, Nat.reduceLT, Nat.reduceEqDiff, Int.reduceLT, Int.reduceLE, Int.reduceEq, Int.reduceNe, Int.reduceNeg, Int.reduceAdd, Int.reduceSub, Int.reduceMul, if_true, if_false, ite_true, ite_false, reduceIte, true_and, and_true, true_implies, forall_const, decide_eq_true_eq, decide_eq_false_iff_not, Bool.not_eq_true', Bool.not_eq_false', Bool.and_eq_true, Bool.or_eq_true, Bool.and_eq_false_iff, Bool.or_eq_false_iff, Bool.not_eq_true, Bool.not_eq_false, Bool.false_eq_true, Bool.true_eq_false, false_implies, implies_true, b2i_ne, b2i_eq, zB_b2i, not_true_eq_false, not_false_eq_true, List.drop_zero, List.drop_succ_cons, zIn_iff, zI8_iff, or_false, false_or, or_true, true_or, and_false, false_and, Decidable.not_not, s39 (d + 5) h, nlit, k15]
    refine hE (d + 8) hd (j + 1) _ _ _ _ hX2 (by omega) ?_
    have fr1 : XFr tr N1 τ (mset τ 7 4 ((j + 1 : Nat) : Int)) := XFr.at7 ht (Or.inl rfl)
    cases hq : E (j + 1) with
    | error x => rw [hq, pBd_er] at hR; exact fun υ hυ => hR υ (XErr.pre fr0 (XErr.pre fr1 hυ))
    | ok x =>
      obtain ⟨t, k⟩ := x
      rw [hq, pBd_ok] at hR
      intro m N2 υ y1 y2 y3 yl y4 y5 y6
      have hke := y1.2.2.2.2.1
      have hL2 := y1.lay
      have hN2 : N2 < 4096 := by omega
      have hin2 : (0 : Int) ≤ (N2 : Int) ∧ (N2 : Int) < ((4096 : Nat) : Int) := by omega
      have hA := y1.addN 8 (altV (kdT tp n) (vlT tp n) mk i) (altL (kdT tp n) i) pv (m : Int)
      have fr2 : XFr tr N1 τ υ := fr1.tr y2 (Nat.le_refl _)
      simp only [↓zwq, zpq, zgq, zhq, eq_sto, eq_kill, eq_zSto, eq_mset, eq_zGd, zsq, Int.reduceToNat, List.length_cons, List.length_nil, Nat.reduceAdd, Nat.reduceLT, Nat.reduceEqDiff, Int.reduceLT, Int.reduceLE, Int.reduceEq, Int.reduceNe, Int.reduceNeg, Int.reduceAdd, Int.reduceSub, Int.reduceMul, if_true, if_false, ite_true, ite_false, reduceIte, true_and, and_true, true_implies, forall_const, decide_eq_true_eq, decide_eq_false_iff_not, Bool.not_eq_true', Bool.not_eq_false', Bool.and_eq_true, Bool.or_eq_true, Bool.and_eq_false_iff, Bool.or_eq_false_iff, Bool.not_eq_true, Bool.not_eq_false, Bool.false_eq_true, Bool.true_eq_false, false_implies, implies_true, b2i_ne, b2i_eq, zB_b2i, not_true_eq_false, not_false_eq_true, List.drop_zero, List.drop_succ_cons, zIn_iff, zI8_iff, or_false, false_or, or_true, true_or, and_false, false_and, Decidable.not_not, laq hL2, y1.1.2.2.2.1, Int.toNat_natCast, trs ht, s30 (d + 7) hL2 ht y1.2.2.2.1 hN2, laq hA.lay, hA.1.2.2.2.1, trq hA.lay ht, hin2]
      have frB : XFr tr N2 υ (mset (addN tr N2 8 (altV (kdT tp n) (vlT tp n) mk i) (altL (kdT tp n) i) pv (m : Int) υ) (tr + 8) N2 (i : Int)) := XFr.addN.setn (f := 7) rfl (by decide) (Nat.le_refl _)
      have xB : ∀ f, xr (mset (addN tr N2 8 (altV (kdT tp n) (vlT tp n) mk i) (altL (kdT tp n) i) pv (m : Int) υ) (tr + 8) N2 (i : Int)) tr f N2 = if f = 7 then (i : Int) else xr (addN tr N2 8 (altV (kdT tp n) (vlT tp n) mk i) (altL (kdT tp n) i) pv (m : Int) υ) tr f N2 := fun f => by
        rw [xr_set (f := 7) rfl (by decide)]; simp
      have hB : XP tp n e tr pr ml k o (N2 + 1) (mset (addN tr N2 8 (altV (kdT tp n) (vlT tp n) mk i) (altL (kdT tp n) i) pv (m : Int) υ) (tr + 8) N2 (i : Int)) := hA.setn (f := 7) rfl (by decide)
      generalize mset (addN tr N2 8 (altV (kdT tp n) (vlT tp n) mk i) (altL (kdT tp n) i) pv (m : Int) υ) (tr + 8) N2 (i : Int) = ρ at frB xB hB ⊢
      refine hR N2 (N2 + 1) ρ hB ((fr0.tr fr2 hl).tr frB (by omega)) (by omega) (by omega) (Nat.lt_succ_self _) (by omega) ?_ (by unfold Is; rw [xB, if_neg (by decide), xr_add]; simp)
      have hnl : kdT tp n i ≠ 24 → rX (kdT tp n) (plT tp n) (vlT tp n) mk (xr ρ tr) N N2 nl pv := fun z => rX_up _ _ _ _ _ _ (Nat.le_refl _) (by omega) (fun f k a b => (frB.2 f k (by omega)).trans (fr2.2 f k b)) (hp2 z)
      have hb' : rX (kdT tp n) (plT tp n) (vlT tp n) mk (xr ρ tr) N N2 t (m : Int) := rX_up _ _ _ _ _ _ (by omega) (Nat.le_refl _) (fun f k a b => frB.2 f k b) y6
      refine ⟨N2, rfl, by omega, Nat.lt_succ_self _, ?_, fun z => absurd rfl z, fun z => absurd z (by decide), fun z => absurd z (by decide), fun z => absurd z (by decide), fun z => absurd z (by decide), fun z => absurd z (by decide), fun z => absurd z (by decide), fun z => absurd z (by decide), fun _ => ⟨?_, ?_, ?_, fun z => ?_, fun z => ?_, ?_⟩, fun z => absurd z (by decide), fun z => absurd z (by decide), fun z => absurd z (by decide)⟩
      · rw [xB, if_neg (by decide), xr_add]; simp
      · rw [xB, if_neg (by decide), xr_add]; simp [altV]
      · rw [xB, if_pos rfl]
      · rw [xB, if_neg (by decide), xr_add]; simp [altL]
      · rw [xB, if_neg (by decide), xr_add]; simp; exact hp1 z
      · rw [xB, if_neg (by decide), xr_add]; simp; exact hnl z
      · rw [xB, if_neg (by decide), xr_add]; simp; exact hb'
  · rw [pTo_n k15] at hR
    simp only [↓zwq, zpq, zgq, zhq, eq_sto, eq_kill, eq_zSto, eq_mset, eq_zGd, zsq, Int.reduceToNat, List.length_cons, List.length_nil, Nat.reduceAdd, Nat.reduceLT, Nat.reduceEqDiff, Int.reduceLT, Int.reduceLE, Int.reduceEq, Int.reduceNe, Int.reduceNeg, Int.reduceAdd, Int.reduceSub, Int.reduceMul, if_true, if_false, ite_true, ite_false, reduceIte, true_and, and_true, true_implies, forall_const, decide_eq_true_eq, decide_eq_false_iff_not, Bool.not_eq_true', Bool.not_eq_false', Bool.and_eq_true, Bool.or_eq_true, Bool.and_eq_false_iff, Bool.or_eq_false_iff, Bool.not_eq_true, Bool.not_eq_false, Bool.false_eq_true, Bool.true_eq_false, false_implies, implies_true, b2i_ne, b2i_eq, zB_b2i, not_true_eq_false, not_false_eq_true, List.drop_zero, List.drop_succ_cons, zIn_iff, zI8_iff, or_false, false_or, or_true, true_or, and_false, false_and, Decidable.not_not, s39 (d + 5) h, nlit, k15]
    exact hR _ (XErr.pre fr0 (XErr.of h 1))
theorem s53 (d D0 F : Nat) (hF : e ≤ F) (hM : HMk tp n e tr pr ml mk) (hE : HEx tp n e tr pr ml mk D0 o E) (hd : D0 ≤ d + 8) (hml : ∀ k, k < e → kdT tp n k ≠ 3 → ml (k + 1) = ml k) (h : XP tp n e tr pr ml i o N σ) (hN : N ≤ 2 * i) (R T : zK)
    (hR : xResE tp n e tr pr ml mk i o N σ R T (pAlt (kdT tp n) F E i)) : zCallD (d + 9) 53 [7] σ R T := by
  have hL := h.lay
  have ht := h.1.2.2.2.2.2.1
  have hie := h.2.2.2.2.1
  have he := h.1.2.2.1
  have ib : i < 2147483647 := by omega
  have fx : XFr tr N σ (mset σ 7 4 ((i + 1 : Nat) : Int)) := XFr.at7 ht (Or.inl rfl)
  generalize hT : (sSeq (sCall 39 [(eP (pL 3 0)), (eP (pI 15))])
  (sSeq (sSt 1 5 (eCall 49 [(eP (pL 3 0))]))
  (sSeq (sSt 1 6 (eCall 30 [(eP (p1 (oGf 2 2 3) (pL 3 0))), (eP (pI 8)), (eP (pL 1 3)), (eP (pL 1 2)), (eP (pL 1 4)), (eP (pL 1 5))]))
  (sSeq (sSe 1 (eP (p1 (oGf 5 7 3) (p1 (oGf 2 2 3) (pL 3 0)))) (eP (pL 1 6)) (eP (pL 1 1)))
  (sRet 1 (eP (pL 1 6))))))) = TL
  unfold pAlt pPat at hR
  by_cases k3 : kdT tp n i = 3
  · have hi := h.lt (by rw [k3]; decide)
    rw [if_pos k3] at hR
    simp only [c_53, b_53, hT, ↓zwq, zpq, zgq, zhq, eq_sto, eq_kill, eq_zSto, eq_mset, eq_zGd, zsq, Int.reduceToNat, List.length_cons, List.length_nil, Nat.reduceAdd, Nat.reduceLT, Nat.reduceEqDiff, Int.reduceLT, Int.reduceLE, Int.reduceEq, Int.reduceNe, Int.reduceNeg, Int.reduceAdd, Int.reduceSub, Int.reduceMul, if_true, if_false, ite_true, ite_false, reduceIte, true_and, and_true, true_implies, forall_const, decide_eq_true_eq, decide_eq_false_iff_not, Bool.not_eq_true', Bool.not_eq_false', Bool.and_eq_true, Bool.or_eq_true, Bool.and_eq_false_iff, Bool.or_eq_false_iff, Bool.not_eq_true, Bool.not_eq_false, Bool.false_eq_true, Bool.true_eq_false, false_implies, implies_true, b2i_ne, b2i_eq, zB_b2i, not_true_eq_false, not_false_eq_true, List.drop_zero, List.drop_succ_cons, zIn_iff, zI8_iff, or_false, false_or, or_true, true_or, and_false, false_and, Decidable.not_not, laq hL, h.2.1, s36 (d + 7) h, nlit, k3]
    refine hM (d + 4) i o N σ _ _ h hi k3 (fun τ hm hf => ?_)
    have hX := hm.next
    simp only [↓zwq, zpq, zgq, zhq, eq_sto, eq_kill, eq_zSto, eq_mset, eq_zGd, zsq, Int.reduceToNat, List.length_cons, List.length_nil, Nat.reduceAdd, Nat.reduceLT, Nat.reduceEqDiff, Int.reduceLT, Int.reduceLE, Int.reduceEq, Int.reduceNe, Int.reduceNeg, Int.reduceAdd, Int.reduceSub, Int.reduceMul, if_true, if_false, ite_true, ite_false, reduceIte, true_and, and_true, true_implies, forall_const, decide_eq_true_eq, decide_eq_false_iff_not, Bool.not_eq_true', Bool.not_eq_false', Bool.and_eq_true, Bool.or_eq_true, Bool.and_eq_false_iff, Bool.or_eq_false_iff, Bool.not_eq_true, Bool.not_eq_false, Bool.false_eq_true, Bool.true_eq_false, false_implies, implies_true, b2i_ne, b2i_eq, zB_b2i, not_true_eq_false, not_false_eq_true, List.drop_zero, List.drop_succ_cons, zIn_iff, zI8_iff, or_false, false_or, or_true, true_or, and_false, false_and, Decidable.not_not, laq hm.1.1.1, hm.2.1, w32s ib]
    refine xNames53 (d + 5) hX (by omega) hml _ _ _ _ R T (fun j υ la hij hkn hkj x1 x2 hrow => ?_)
    have hje := x1.2.2.2.2.1
    have hp : pNm (kdT tp n) true F (i + 1) = (nmL (i + 1) (j - (i + 1)), j) := pNm_eq F (i + 1) j hij (fun k a b => (hkn k a b).imp id (fun z => ⟨rfl, z⟩)) (fun z => hkj (z.imp id (fun y => y.2))) (by omega)
    rw [hp, pBd_ok] at hR
    have z := xAltT d D0 hE hd hml hie (by omega) x1 ((hf N).tr ((XFr.at7 ht (Or.inl rfl)).tr x2 (Nat.le_refl _)) (Nat.le_refl _)) (by omega) (by omega) hN (nmL (i + 1) (j - (i + 1))) (if j - (i + 1) = 0 then -1 else (N : Int)) (fun z => absurd (k3.symm.trans z) (by decide)) (fun _ => rX_row _ N (i + 1) (Nat.le_refl _) (by omega) hrow) R T hR
    rw [hT, show altL (kdT tp n) i = 0 by unfold altL; rw [if_pos k3], show altV (kdT tp n) (vlT tp n) mk i = mk i by unfold altV; rw [if_pos k3]] at z
    simp only [↓zwq, zpq, zgq, zhq, eq_sto, eq_kill, eq_zSto, eq_mset, eq_zGd, zsq, Int.reduceToNat, List.length_cons, List.length_nil, Nat.reduceAdd, Nat.reduceLT, Nat.reduceEqDiff, Int.reduceLT, Int.reduceLE, Int.reduceEq, Int.reduceNe, Int.reduceNeg, Int.reduceAdd, Int.reduceSub, Int.reduceMul, if_true, if_false, ite_true, ite_false, reduceIte, true_and, and_true, true_implies, forall_const, decide_eq_true_eq, decide_eq_false_iff_not, Bool.not_eq_true', Bool.not_eq_false', Bool.and_eq_true, Bool.or_eq_true, Bool.and_eq_false_iff, Bool.or_eq_false_iff, Bool.not_eq_true, Bool.not_eq_false, Bool.false_eq_true, Bool.true_eq_false, false_implies, implies_true, b2i_ne, b2i_eq, zB_b2i, not_true_eq_false, not_false_eq_true, List.drop_zero, List.drop_succ_cons, zIn_iff, zI8_iff, or_false, false_or, or_true, true_or, and_false, false_and, Decidable.not_not]
    exact z
  rw [if_neg k3] at hR
  by_cases k18 : kdT tp n i = 18
  · have hi := h.lt (by rw [k18]; decide)
    have hX := h.next hi (hml i hi (by rw [k18]; decide))
    rw [if_pos k18] at hR
    by_cases k4 : kdT tp n (i + 1) = 4
    · have hi2 := hX.lt (by rw [k4]; decide)
      have hX2 := hX.next hi2 (hml (i + 1) hi2 (by rw [k4]; decide))
      have ib2 : i + 1 < 2147483647 := by omega
      rw [pTo_y k4, pBd_ok] at hR
      have e1 : b2i true = 1 := rfl
      simp only [c_53, b_53, hT, ↓zwq, zpq, zgq, zhq, eq_sto, eq_kill, eq_zSto, eq_mset, eq_zGd, zsq, Int.reduceToNat, List.length_cons, List.length_nil, Nat.reduceAdd, Nat.reduceLT, Nat.reduceEqDiff, Int.reduceLT, Int.reduceLE, Int.reduceEq, Int.reduceNe, Int.reduceNeg, Int.reduceAdd, Int.reduceSub, Int.reduceMul, if_true, if_false, ite_true, ite_false, reduceIte, true_and, and_true, true_implies, forall_const, decide_eq_true_eq, decide_eq_false_iff_not, Bool.not_eq_true', Bool.not_eq_false', Bool.and_eq_true, Bool.or_eq_true, Bool.and_eq_false_iff, Bool.or_eq_false_iff, Bool.not_eq_true, Bool.not_eq_false, Bool.false_eq_true, Bool.true_eq_false, false_implies, implies_true, b2i_ne, b2i_eq, zB_b2i, not_true_eq_false, not_false_eq_true, List.drop_zero, List.drop_succ_cons, zIn_iff, zI8_iff, or_false, false_or, or_true, true_or, and_false, false_and, Decidable.not_not, laq hL, h.2.1, s36 (d + 7) h, nlit, k3, k18, s37 (d + 6) h, s36 (d + 7) hX, k4]
      refine s26 (d + 7) hX.1 (Nat.le_of_lt hi2) k4 _ _ ?_
      have z := xAltT d D0 hE hd hml hie (by omega) hX2 (fx.tr (XFr.at7 ht (Or.inl rfl)) (Nat.le_refl _)) (Nat.le_refl _) (by omega) hN .nil (-1) (fun z => absurd (k18.symm.trans z) (by decide)) (fun _ => rfl) R T hR
      rw [hT, show altL (kdT tp n) i = 1 by unfold altL; rw [if_neg k3, if_pos (Or.inr k18)], show altV (kdT tp n) (vlT tp n) mk i = -vlT tp n (i + 1) by unfold altV; rw [if_neg k3, if_neg (by rw [k18]; decide), if_pos k18]] at z
      have vb : w32 (-vlT tp n (i + 1)) = -vlT tp n (i + 1) := by
        obtain ⟨t1, t2, t3⟩ := tok_num k4
        have nb := numV_bd (tp := tp) (n := n) (p := plc tp n (i + 1)) (m := szT tp n (i + 1)) (fun k hk => dEnd_all (p := plc tp n (i + 1)) (by omega) (by have : szT tp n (i + 1) = dEnd tp n (plc tp n (i + 1)) - plc tp n (i + 1) := t2; omega))
        have p9 := pow9 (m := szT tp n (i + 1)) t3
        have : vlT tp n (i + 1) = numV tp n (plc tp n (i + 1)) (szT tp n (i + 1)) := rfl
        exact w32_id (by omega) (by omega)
      simp only [↓zwq, zpq, zgq, zhq, eq_sto, eq_kill, eq_zSto, eq_mset, eq_zGd, zsq, Int.reduceToNat, List.length_cons, List.length_nil, Nat.reduceAdd, Nat.reduceLT, Nat.reduceEqDiff, Int.reduceLT, Int.reduceLE, Int.reduceEq, Int.reduceNe, Int.reduceNeg, Int.reduceAdd, Int.reduceSub, Int.reduceMul, if_true, if_false, ite_true, ite_false, reduceIte, true_and, and_true, true_implies, forall_const, decide_eq_true_eq, decide_eq_false_iff_not, Bool.not_eq_true', Bool.not_eq_false', Bool.and_eq_true, Bool.or_eq_true, Bool.and_eq_false_iff, Bool.or_eq_false_iff, Bool.not_eq_true, Bool.not_eq_false, Bool.false_eq_true, Bool.true_eq_false, false_implies, implies_true, b2i_ne, b2i_eq, zB_b2i, not_true_eq_false, not_false_eq_true, List.drop_zero, List.drop_succ_cons, zIn_iff, zI8_iff, or_false, false_or, or_true, true_or, and_false, false_and, Decidable.not_not, vb, w32s ib2]
      exact z
    · rw [pTo_n k4, pBd_er] at hR
      simp only [c_53, b_53, hT, ↓zwq, zpq, zgq, zhq, eq_sto, eq_kill, eq_zSto, eq_mset, eq_zGd, zsq, Int.reduceToNat, List.length_cons, List.length_nil, Nat.reduceAdd, Nat.reduceLT, Nat.reduceEqDiff, Int.reduceLT, Int.reduceLE, Int.reduceEq, Int.reduceNe, Int.reduceNeg, Int.reduceAdd, Int.reduceSub, Int.reduceMul, if_true, if_false, ite_true, ite_false, reduceIte, true_and, and_true, true_implies, forall_const, decide_eq_true_eq, decide_eq_false_iff_not, Bool.not_eq_true', Bool.not_eq_false', Bool.and_eq_true, Bool.or_eq_true, Bool.and_eq_false_iff, Bool.or_eq_false_iff, Bool.not_eq_true, Bool.not_eq_false, Bool.false_eq_true, Bool.true_eq_false, false_implies, implies_true, b2i_ne, b2i_eq, zB_b2i, not_true_eq_false, not_false_eq_true, List.drop_zero, List.drop_succ_cons, zIn_iff, zI8_iff, or_false, false_or, or_true, true_or, and_false, false_and, Decidable.not_not, laq hL, h.2.1, s36 (d + 7) h, nlit, k3, k18, s37 (d + 6) h, s36 (d + 7) hX, k4, s38 (d + 7) hX]
      exact hR _ (XErr.pre fx (XErr.of hX 1))
  rw [if_neg k18] at hR
  by_cases k4 : kdT tp n i = 4
  · have hi := h.lt (by rw [k4]; decide)
    have hX := h.next hi (hml i hi (by rw [k4]; decide))
    rw [if_pos k4, pBd_ok] at hR
    simp only [c_53, b_53, hT, ↓zwq, zpq, zgq, zhq, eq_sto, eq_kill, eq_zSto, eq_mset, eq_zGd, zsq, Int.reduceToNat, List.length_cons, List.length_nil, Nat.reduceAdd, Nat.reduceLT, Nat.reduceEqDiff, Int.reduceLT, Int.reduceLE, Int.reduceEq, Int.reduceNe, Int.reduceNeg, Int.reduceAdd, Int.reduceSub, Int.reduceMul, if_true, if_false, ite_true, ite_false, reduceIte, true_and, and_true, true_implies, forall_const, decide_eq_true_eq, decide_eq_false_iff_not, Bool.not_eq_true', Bool.not_eq_false', Bool.and_eq_true, Bool.or_eq_true, Bool.and_eq_false_iff, Bool.or_eq_false_iff, Bool.not_eq_true, Bool.not_eq_false, Bool.false_eq_true, Bool.true_eq_false, false_implies, implies_true, b2i_ne, b2i_eq, zB_b2i, not_true_eq_false, not_false_eq_true, List.drop_zero, List.drop_succ_cons, zIn_iff, zI8_iff, or_false, false_or, or_true, true_or, and_false, false_and, Decidable.not_not, laq hL, h.2.1, s36 (d + 7) h, nlit, k3, k18, s37 (d + 6) h, k4]
    refine s26 (d + 7) h.1 hie k4 _ _ ?_
    have z := xAltT d D0 hE hd hml hie (by omega) hX fx (Nat.le_refl _) (by omega) hN .nil (-1) (fun z => absurd (k4.symm.trans z) (by decide)) (fun _ => rfl) R T hR
    rw [hT, show altL (kdT tp n) i = 1 by unfold altL; rw [if_neg k3, if_pos (Or.inl k4)], show altV (kdT tp n) (vlT tp n) mk i = vlT tp n i by unfold altV; rw [if_neg k3, if_pos k4]] at z
    simp only [↓zwq, zpq, zgq, zhq, eq_sto, eq_kill, eq_zSto, eq_mset, eq_zGd, zsq, Int.reduceToNat, List.length_cons, List.length_nil, Nat.reduceAdd, Nat.reduceLT, Nat.reduceEqDiff, Int.reduceLT, Int.reduceLE, Int.reduceEq, Int.reduceNe, Int.reduceNeg, Int.reduceAdd, Int.reduceSub, Int.reduceMul, if_true, if_false, ite_true, ite_false, reduceIte, true_and, and_true, true_implies, forall_const, decide_eq_true_eq, decide_eq_false_iff_not, Bool.not_eq_true', Bool.not_eq_false', Bool.and_eq_true, Bool.or_eq_true, Bool.and_eq_false_iff, Bool.or_eq_false_iff, Bool.not_eq_true, Bool.not_eq_false, Bool.false_eq_true, Bool.true_eq_false, false_implies, implies_true, b2i_ne, b2i_eq, zB_b2i, not_true_eq_false, not_false_eq_true, List.drop_zero, List.drop_succ_cons, zIn_iff, zI8_iff, or_false, false_or, or_true, true_or, and_false, false_and, Decidable.not_not, laq hL, h.2.1, w32s ib]
    exact z
  rw [if_neg k4] at hR
  by_cases k2 : kdT tp n i = 2
  · have hi := h.lt (by rw [k2]; decide)
    rw [if_pos (Or.inl k2), pBd_ok] at hR
    simp only [c_53, b_53, hT, ↓zwq, zpq, zgq, zhq, eq_sto, eq_kill, eq_zSto, eq_mset, eq_zGd, zsq, Int.reduceToNat, List.length_cons, List.length_nil, Nat.reduceAdd, Nat.reduceLT, Nat.reduceEqDiff, Int.reduceLT, Int.reduceLE, Int.reduceEq, Int.reduceNe, Int.reduceNeg, Int.reduceAdd, Int.reduceSub, Int.reduceMul, if_true, if_false, ite_true, ite_false, reduceIte, true_and, and_true, true_implies, forall_const, decide_eq_true_eq, decide_eq_false_iff_not, Bool.not_eq_true', Bool.not_eq_false', Bool.and_eq_true, Bool.or_eq_true, Bool.and_eq_false_iff, Bool.or_eq_false_iff, Bool.not_eq_true, Bool.not_eq_false, Bool.false_eq_true, Bool.true_eq_false, false_implies, implies_true, b2i_ne, b2i_eq, zB_b2i, not_true_eq_false, not_false_eq_true, List.drop_zero, List.drop_succ_cons, zIn_iff, zI8_iff, or_false, false_or, or_true, true_or, and_false, false_and, Decidable.not_not, laq hL, h.2.1, s36 (d + 7) h, nlit, k3, k18, k4, k2]
    refine s45 (d + 6) h hi (by omega) (hml i hi (by rw [k2]; decide)) _ _ (fun τ x1 x2 q0 q1 q7 q6 => ?_)
    have hrow : Row (kdT tp n) (plT tp n) (xr τ tr) N i 1 := fun k hk => by
      cases (show k = 0 by omega)
      exact ⟨q0, q1, q7, by rw [if_neg (by decide)]; exact q6⟩
    have z := xAltT d D0 hE hd hml hie (Nat.lt_succ_self _) x1 x2 (by omega) (by omega) hN (.append (nd 9 i .nil .nil) .nil) (N : Int) (fun z => absurd (k2.symm.trans z) (by decide)) (fun _ => rX_row 1 N i (Nat.le_refl _) (by omega) hrow) R T hR
    rw [hT, show altL (kdT tp n) i = 2 by unfold altL; rw [if_neg k3, if_neg (fun z => z.elim k4 k18), if_pos k2], show altV (kdT tp n) (vlT tp n) mk i = 0 by unfold altV; rw [if_neg k3, if_neg k4, if_neg k18]] at z
    exact z
  by_cases k24 : kdT tp n i = 24
  · have hi := h.lt (by rw [k24]; decide)
    have hX := h.next hi (hml i hi (by rw [k24]; decide))
    rw [if_pos (Or.inr k24), pBd_ok] at hR
    simp only [c_53, b_53, hT, ↓zwq, zpq, zgq, zhq, eq_sto, eq_kill, eq_zSto, eq_mset, eq_zGd, zsq, Int.reduceToNat, List.length_cons, List.length_nil, Nat.reduceAdd, Nat.reduceLT, Nat.reduceEqDiff, Int.reduceLT, Int.reduceLE, Int.reduceEq, Int.reduceNe, Int.reduceNeg, Int.reduceAdd, Int.reduceSub, Int.reduceMul, if_true, if_false, ite_true, ite_false, reduceIte, true_and, and_true, true_implies, forall_const, decide_eq_true_eq, decide_eq_false_iff_not, Bool.not_eq_true', Bool.not_eq_false', Bool.and_eq_true, Bool.or_eq_true, Bool.and_eq_false_iff, Bool.or_eq_false_iff, Bool.not_eq_true, Bool.not_eq_false, Bool.false_eq_true, Bool.true_eq_false, false_implies, implies_true, b2i_ne, b2i_eq, zB_b2i, not_true_eq_false, not_false_eq_true, List.drop_zero, List.drop_succ_cons, zIn_iff, zI8_iff, or_false, false_or, or_true, true_or, and_false, false_and, Decidable.not_not, laq hL, h.2.1, s36 (d + 7) h, nlit, k3, k18, k4, k2, s39 (d + 5) h, k24]
    have z := xAltT d D0 hE hd hml hie (Nat.lt_succ_self _) hX fx (Nat.le_refl _) (by omega) hN (.append (nd 9 i .nil .nil) .nil) (-1) (fun _ => rfl) (fun z => absurd k24 z) R T hR
    rw [hT, show altL (kdT tp n) i = 3 by unfold altL; rw [if_neg k3, if_neg (fun z => z.elim k4 k18), if_neg k2], show altV (kdT tp n) (vlT tp n) mk i = 0 by unfold altV; rw [if_neg k3, if_neg k4, if_neg k18]] at z
    exact z
  · rw [if_neg (fun z => z.elim k2 k24), pBd_er] at hR
    simp only [c_53, b_53, hT, ↓zwq, zpq, zgq, zhq, eq_sto, eq_kill, eq_zSto, eq_mset, eq_zGd, zsq, Int.reduceToNat, List.length_cons, List.length_nil, Nat.reduceAdd, Nat.reduceLT, Nat.reduceEqDiff, Int.reduceLT, Int.reduceLE, Int.reduceEq, Int.reduceNe, Int.reduceNeg, Int.reduceAdd, Int.reduceSub, Int.reduceMul, if_true, if_false, ite_true, ite_false, reduceIte, true_and, and_true, true_implies, forall_const, decide_eq_true_eq, decide_eq_false_iff_not, Bool.not_eq_true', Bool.not_eq_false', Bool.and_eq_true, Bool.or_eq_true, Bool.and_eq_false_iff, Bool.or_eq_false_iff, Bool.not_eq_true, Bool.not_eq_false, Bool.false_eq_true, Bool.true_eq_false, false_implies, implies_true, b2i_ne, b2i_eq, zB_b2i, not_true_eq_false, not_false_eq_true, List.drop_zero, List.drop_succ_cons, zIn_iff, zI8_iff, or_false, false_or, or_true, true_or, and_false, false_and, Decidable.not_not, laq hL, h.2.1, s36 (d + 7) h, nlit, k3, k18, k4, k2, s39 (d + 5) h, k24]
    exact hR _ (XErr.of h 1)
end
