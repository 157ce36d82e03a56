/-! LazyForms reads a text -/
def wTok (o k : Nat) : Bool := o == 9 || o == 10 || o == 11 || o == 12 || (o == 8 && (k == 1 || k == 2))
def XK (tp : Nat → Int) (n K : Nat) (σ : Mem) : Prop := σ 8 2 = (K : Int) ∧ ∀ k, k < K → σ 10 k = ((tok tp n (plc tp n k)).1 : Int) ∧ σ 11 k = (plc tp n k : Int) ∧ σ 12 k = ((tok tp n (plc tp n k)).2 : Int)
theorem XK.add {tp : Nat → Int} {n K : Nat} {σ : Mem} (h : XK tp n K σ) : XK tp n (K + 1) (addT σ K (tok tp n (plc tp n K)).1 (plc tp n K) (tok tp n (plc tp n K)).2) := by
  refine ⟨by simp [addT, eq_mset], fun k hk => ?_⟩
  by_cases e : k = K
  · subst e; simp [addT, eq_mset]
  · have := h.2 k (by omega)
    simp [addT, eq_mset, e, this]
theorem Fr.addT {σ τ : Mem} (h : Fr wTok σ τ) (K : Nat) (k p m : Int) : Fr wTok σ (addT τ K k p m) := (((h.set (by simp [wTok])).set (by simp [wTok])).set (by simp [wTok])).set (by simp [wTok])
theorem plc_ge {tp : Nat → Int} {n : Nat} : ∀ {K : Nat}, (∀ k, k < K → plc tp n k < n) → K ≤ plc tp n K
  | 0, _ => Nat.zero_le _
  | K + 1, h => by
    have a := plc_ge (K := K) (fun k hk => h k (by omega))
    have b := (plc_lt (h K (by omega))).2
    omega
/-- the text's tokens are read, down to the one that ends it -/
def XR (tp : Nat → Int) (n : Nat) (σ : Mem) : Prop := XT tp n σ ∧ ∃ K, K ≤ 2000 ∧ XK tp n (K + 1) σ ∧ (∀ k, k < K → plc tp n k < n) ∧ plc tp n K = n
theorem s19 (d : Nat) {tp : Nat → Int} {n : Nat} {σ : Mem} (hL : Lay σ) (hn : n ≤ 2000) (ht : ∀ i, i < n → σ 6 i = tp i) (R T : zK) (hR : ∀ σ', Fr wTok σ σ' → XR tp n σ' → R 0 σ') : zCallD (d + 5) 19 [8, 6, (n : Int)] σ R T := by
  have en : (0 : Int) ≤ (n : Int) ∧ (n : Int) ≤ ((2000 : Nat) : Int) := by omega
  simp only [c_19, b_19, ↓zwq, zpq, zgq, zhq, eq_sto, eq_kill, eq_zSto, eq_mset, eq_zGd, zsq, Int.reduceToNat, List.length_cons, List.length_nil, Nat.reduceAdd, Nat.reduceLT, Nat.reduceEqDiff, Int.reduceLT, Int.reduceLE, Int.reduceEq, Int.reduceNe, Int.reduceNeg, Int.reduceAdd, Int.reduceSub, Int.reduceMul, if_true, if_false, ite_true, ite_false, reduceIte, true_and, and_true, true_implies, forall_const, decide_eq_true_eq, decide_eq_false_iff_not, Bool.not_eq_true', Bool.not_eq_false', Bool.and_eq_true, Bool.or_eq_true, Bool.and_eq_false_iff, Bool.or_eq_false_iff, Bool.not_eq_true, Bool.not_eq_false, Bool.false_eq_true, Bool.true_eq_false, false_implies, implies_true, b2i_ne, b2i_eq, zB_b2i, not_true_eq_false, not_false_eq_true, List.drop_zero, List.drop_succ_cons, zIn_iff, zI8_iff, laq hL, Int.zero_add, en, Int.toNat_natCast, Int.toNat_zero]
  have hX : XT tp n (mset (mset (mcpy σ 6 0 9 0 n) 8 1 (n : Int)) 8 2 0) := by
    refine ⟨Lay.set (Lay.set ?_ (by decide)) (by decide), by simp [eq_mset], hn, fun i hi => ?_⟩
    · intro p hp
      have : p.1 ≠ 9 := (show ∀ p ∈ layL, p.1 ≠ 9 by decide) p hp
      simp only [mcpy, this, if_false]
      exact hL p hp
    · simp [eq_mset, mcpy, hi, ht i hi]
  have hF : Fr wTok σ (mset (mset (mcpy σ 6 0 9 0 n) 8 1 (n : Int)) 8 2 0) := by
    refine Fr.set (Fr.set ?_ (by simp [wTok])) (by simp [wTok])
    intro o k e
    have : o ≠ 9 := by intro z; subst z; simp [wTok] at e
    simp [mcpy, this]
  have hK : XK tp n 0 (mset (mset (mcpy σ 6 0 9 0 n) 8 1 (n : Int)) 8 2 0) := ⟨by simp [eq_mset], fun k hk => by omega⟩
  generalize mset (mset (mcpy σ 6 0 9 0 n) 8 1 (n : Int)) 8 2 0 = τ at hX hF hK ⊢
  refine s20 (d + 2) (tp := tp) (n := n) (p := 0) hX (Nat.zero_le _) _ _ ?_
  refine lpW (fun m e s => ∃ K, m = n - plc tp n K ∧ e = [(3, 8), (3, 6), (1, (n : Int)), (1, (plc tp n K : Int))] ∧ Fr wTok σ s ∧ XT tp n s ∧ XK tp n K s ∧ (∀ k, k < K → plc tp n k < n)) ?_ (n - plc tp n 0) _ _ ⟨0, rfl, rfl, hF, hX, hK, fun k hk => by omega⟩
  clear hX hF hK τ
  rintro m e s ⟨K, rfl, rfl, hF, hX, hK, hp⟩
  have ⟨hL', h1, h2, h3⟩ := hX
  have hge := plc_ge hp
  have hle := plc_le tp n K
  by_cases g : plc tp n K < n
  · have g' : ((plc tp n K : Nat) : Int) < (n : Int) := by omega
    simp only [↓zwq, zpq, zgq, zhq, eq_sto, eq_kill, eq_zSto, eq_mset, eq_zGd, zsq, Int.reduceToNat, List.length_cons, List.length_nil, Nat.reduceAdd, Nat.reduceLT, Nat.reduceEqDiff, Int.reduceLT, Int.reduceLE, Int.reduceEq, Int.reduceNe, Int.reduceNeg, Int.reduceAdd, Int.reduceSub, Int.reduceMul, if_true, if_false, ite_true, ite_false, reduceIte, true_and, and_true, true_implies, forall_const, decide_eq_true_eq, decide_eq_false_iff_not, Bool.not_eq_true', Bool.not_eq_false', Bool.and_eq_true, Bool.or_eq_true, Bool.and_eq_false_iff, Bool.or_eq_false_iff, Bool.not_eq_true, Bool.not_eq_false, Bool.false_eq_true, Bool.true_eq_false, false_implies, implies_true, b2i_ne, b2i_eq, zB_b2i, not_true_eq_false, not_false_eq_true, List.drop_zero, List.drop_succ_cons, zIn_iff, zI8_iff, laq hL', h1, g']
    refine s22 (d) hX g hK.1 (by omega) _ _ ?_
    refine s20 (d + 2) (hX.add K _ _ _) (tok_le g).2 _ _ ?_
    have hq := plc_lt g
    refine ⟨n - plc tp n (K + 1), by have := plc_le tp n (K + 1); omega, K + 1, rfl, rfl, hF.addT _ _ _ _, hX.add _ _ _ _, hK.add, fun k hk => ?_⟩
    by_cases e : k = K
    · rw [e]; exact g
    · exact hp k (by omega)
  · have g' : ¬ ((plc tp n K : Nat) : Int) < (n : Int) := by omega
    have ge : plc tp n K = n := by omega
    have gt : tok tp n n = (0, 0) := by unfold tok; rw [if_pos (Nat.le_refl _)]
    simp only [↓zwq, zpq, zgq, zhq, eq_sto, eq_kill, eq_zSto, eq_mset, eq_zGd, zsq, Int.reduceToNat, List.length_cons, List.length_nil, Nat.reduceAdd, Nat.reduceLT, Nat.reduceEqDiff, Int.reduceLT, Int.reduceLE, Int.reduceEq, Int.reduceNe, Int.reduceNeg, Int.reduceAdd, Int.reduceSub, Int.reduceMul, if_true, if_false, ite_true, ite_false, reduceIte, true_and, and_true, true_implies, forall_const, decide_eq_true_eq, decide_eq_false_iff_not, Bool.not_eq_true', Bool.not_eq_false', Bool.and_eq_true, Bool.or_eq_true, Bool.and_eq_false_iff, Bool.or_eq_false_iff, Bool.not_eq_true, Bool.not_eq_false, Bool.false_eq_true, Bool.true_eq_false, false_implies, implies_true, b2i_ne, b2i_eq, zB_b2i, not_true_eq_false, not_false_eq_true, List.drop_zero, List.drop_succ_cons, zIn_iff, zI8_iff, laq hL', h1, g', s21 (d + 3) hL' hK.1 (show K < 2002 by omega)]
    refine hR _ (hF.addT _ _ _ _) ⟨hX.add _ _ _ _, K, by omega, ?_, hp, ge⟩
    have := hK.add
    rw [ge, gt] at this
    exact this
