/-! makers of LazyForms: their names, in rows -/
def fndI : List (List Int) → List Int → Option Nat
  | [], _ => none
  | a :: L, w => if a = w then some 0 else (fndI L w).map (· + 1)
theorem fndI_some : ∀ {L : List (List Int)} {w : List Int} {m : Nat} (hm : m < L.length), L[m] = w → (∀ k (hk : k < m), L[k]'(Nat.lt_trans hk hm) ≠ w) → fndI L w = some m
  | a :: L, w, 0, hm, h1, h2 => by
    have : a = w := h1
    unfold fndI; rw [if_pos this]
  | a :: L, w, m + 1, hm, h1, h2 => by
    have h0 : a ≠ w := h2 0 (Nat.succ_pos _)
    unfold fndI
    rw [if_neg h0, fndI_some (L := L) (m := m) (by simpa using hm) h1 (fun k hk => h2 (k + 1) (by omega))]
    rfl
theorem fndI_none : ∀ {L : List (List Int)} {w : List Int}, (∀ k (hk : k < L.length), L[k] ≠ w) → fndI L w = none
  | [], _, _ => rfl
  | a :: L, w, h => by
    unfold fndI
    rw [if_neg (show a ≠ w from h 0 (by simp)), fndI_none (L := L) (fun k hk => h (k + 1) (by simpa using hk))]
    rfl
theorem fndI_lt : ∀ {L : List (List Int)} {w : List Int} {m : Nat}, fndI L w = some m → ∃ hm : m < L.length, L[m] = w
  | a :: L, w, m, h => by
    unfold fndI at h
    split at h
    · next e => cases h; exact ⟨by simp, e⟩
    · cases q : fndI L w with
      | none => rw [q] at h; cases h
      | some k =>
        rw [q] at h
        cases h
        obtain ⟨hk, e⟩ := fndI_lt q
        exact ⟨by simpa using hk, by simpa using e⟩
def fndZ (L : List (List Int)) (w : List Int) : Int := match fndI L w with
  | some m => (m : Int)
  | none => -1
theorem w32m12 {m : Nat} (h : m ≤ 700) : w32 (12 * (m : Int)) = ((12 * m : Nat) : Int) := by unfold w32; omega
/-- isAt: so many bytes are the same -/
theorem s34 (d : Nat) {σ : Mem} {a b la lb p q n : Nat} (ha : 0 < a) (hb : 0 < b) (sa : zSh σ a = (2, la)) (sb : zSh σ b = (2, lb)) (hp : p + n ≤ la) (hq : q + n ≤ lb) (la4 : la ≤ 100000) (lb4 : lb ≤ 100000) (R T : zK)
    (hR : ∀ r : Bool, (r = true ↔ ∀ i, i < n → σ a (p + i) = σ b (q + i)) → R (b2i r) σ) : zCallD (d + 1) 34 [(a : Int), (p : Int), (b : Int), (q : Int), (n : Int)] σ R T := by
  have ha' : (0 < (a : Int)) = True := eq_true (by omega)
  have hb' : (0 < (b : Int)) = True := eq_true (by omega)
  have zb0 : zB 0 = True := eq_true (Or.inl rfl)
  have zb1 : zB 1 = True := eq_true (Or.inr rfl)
  simp only [c_34, b_34, ↓zwq, zpq, zgq, zhq, eq_sto, eq_kill, eq_zSto, eq_mset, eq_zGd, zsq, Int.reduceToNat, List.length_cons, List.length_nil, Nat.reduceAdd, Nat.reduceLT, Nat.reduceEqDiff, Int.reduceLT, Int.reduceLE, Int.reduceEq, Int.reduceNe, Int.reduceNeg, Int.reduceAdd, Int.reduceSub, Int.reduceMul, if_true, if_false, ite_true, ite_false, reduceIte, true_and, and_true, true_implies, forall_const, decide_eq_true_eq, decide_eq_false_iff_not, Bool.not_eq_true', Bool.not_eq_false', Bool.and_eq_true, Bool.or_eq_true, Bool.and_eq_false_iff, Bool.or_eq_false_iff, Bool.not_eq_true, Bool.not_eq_false, Bool.false_eq_true, Bool.true_eq_false, false_implies, implies_true, b2i_ne, b2i_eq, zB_b2i, not_true_eq_false, not_false_eq_true, List.drop_zero, List.drop_succ_cons, zIn_iff, zI8_iff, or_false, false_or, or_true, true_or, and_false, false_and, Decidable.not_not]
  refine lpW (fun m en s => ∃ i, m = n - i ∧ i ≤ n ∧ s = σ ∧ (∀ k, k < i → σ a (p + k) = σ b (q + k)) ∧ en = [(3, (a : Int)), (1, (p : Int)), (3, (b : Int)), (1, (q : Int)), (1, (n : Int)), (1, (i : Int))]) ?_ n _ _ ⟨0, rfl, Nat.zero_le _, rfl, fun k hk => by omega, rfl⟩
  rintro m en s ⟨i, rfl, hi, rfl, hk, rfl⟩
  by_cases g : i < n
  · have g' : ((i : Int) < (n : Int)) = True := eq_true (by omega)
    have i1 : (0 : Int) ≤ ((p + i : Nat) : Int) ∧ ((p + i : Nat) : Int) < (la : Int) := by omega
    have i2 : (0 : Int) ≤ ((q + i : Nat) : Int) ∧ ((q + i : Nat) : Int) < (lb : Int) := by omega
    have hm : n - (i + 1) < n - i := by omega
    have ib : i < 2147483647 := by omega
    have b1 : p + i < 2147483647 := by omega
    have b2 : q + i < 2147483647 := by omega
    have e1 : w32 ((p : Int) + (i : Int)) = ((p + i : Nat) : Int) := w32add b1
    have e2 : w32 ((q : Int) + (i : Int)) = ((q + i : Nat) : Int) := w32add b2
    by_cases h : s a (p + i) = s b (q + i)
    · simp only [↓zwq, zpq, zgq, zhq, eq_sto, eq_kill, eq_zSto, eq_mset, eq_zGd, zsq, Int.reduceToNat, List.length_cons, List.length_nil, Nat.reduceAdd, Nat.reduceLT, Nat.reduceEqDiff, Int.reduceLT, Int.reduceLE, Int.reduceEq, Int.reduceNe, Int.reduceNeg, Int.reduceAdd, Int.reduceSub, Int.reduceMul, if_true, if_false, ite_true, ite_false, reduceIte, true_and, and_true, true_implies, forall_const, decide_eq_true_eq, decide_eq_false_iff_not, Bool.not_eq_true', Bool.not_eq_false', Bool.and_eq_true, Bool.or_eq_true, Bool.and_eq_false_iff, Bool.or_eq_false_iff, Bool.not_eq_true, Bool.not_eq_false, Bool.false_eq_true, Bool.true_eq_false, false_implies, implies_true, b2i_ne, b2i_eq, zB_b2i, not_true_eq_false, not_false_eq_true, List.drop_zero, List.drop_succ_cons, zIn_iff, zI8_iff, or_false, false_or, or_true, true_or, and_false, false_and, Decidable.not_not, g', ha', hb', sa, sb, Int.toNat_natCast, e1, e2, i1, i2, h, w32s ib]
      refine ⟨_, hm, i + 1, rfl, g, fun k hk' => ?_, rfl⟩
      by_cases e : k = i
      · rw [e]; exact h
      · exact hk k (Nat.lt_of_le_of_ne (Nat.le_of_lt_succ hk') e)
    · simp only [↓zwq, zpq, zgq, zhq, eq_sto, eq_kill, eq_zSto, eq_mset, eq_zGd, zsq, Int.reduceToNat, List.length_cons, List.length_nil, Nat.reduceAdd, Nat.reduceLT, Nat.reduceEqDiff, Int.reduceLT, Int.reduceLE, Int.reduceEq, Int.reduceNe, Int.reduceNeg, Int.reduceAdd, Int.reduceSub, Int.reduceMul, if_true, if_false, ite_true, ite_false, reduceIte, true_and, and_true, true_implies, forall_const, decide_eq_true_eq, decide_eq_false_iff_not, Bool.not_eq_true', Bool.not_eq_false', Bool.and_eq_true, Bool.or_eq_true, Bool.and_eq_false_iff, Bool.or_eq_false_iff, Bool.not_eq_true, Bool.not_eq_false, Bool.false_eq_true, Bool.true_eq_false, false_implies, implies_true, b2i_ne, b2i_eq, zB_b2i, not_true_eq_false, not_false_eq_true, List.drop_zero, List.drop_succ_cons, zIn_iff, zI8_iff, or_false, false_or, or_true, true_or, and_false, false_and, Decidable.not_not, g', ha', hb', sa, sb, Int.toNat_natCast, e1, e2, i1, i2, h, zb0]
      exact hR false ⟨fun z => absurd z (by decide), fun z => absurd (z i g) h⟩
  · have g' : ((i : Int) < (n : Int)) = False := eq_false (by omega)
    have ei : i = n := by omega
    subst ei
    simp only [↓zwq, zpq, zgq, zhq, eq_sto, eq_kill, eq_zSto, eq_mset, eq_zGd, zsq, Int.reduceToNat, List.length_cons, List.length_nil, Nat.reduceAdd, Nat.reduceLT, Nat.reduceEqDiff, Int.reduceLT, Int.reduceLE, Int.reduceEq, Int.reduceNe, Int.reduceNeg, Int.reduceAdd, Int.reduceSub, Int.reduceMul, if_true, if_false, ite_true, ite_false, reduceIte, true_and, and_true, true_implies, forall_const, decide_eq_true_eq, decide_eq_false_iff_not, Bool.not_eq_true', Bool.not_eq_false', Bool.and_eq_true, Bool.or_eq_true, Bool.and_eq_false_iff, Bool.or_eq_false_iff, Bool.not_eq_true, Bool.not_eq_false, Bool.false_eq_true, Bool.true_eq_false, false_implies, implies_true, b2i_ne, b2i_eq, zB_b2i, not_true_eq_false, not_false_eq_true, List.drop_zero, List.drop_succ_cons, zIn_iff, zI8_iff, or_false, false_or, or_true, true_or, and_false, false_and, Decidable.not_not, g', zb1]
    exact hR true ⟨fun _ => hk, fun _ => rfl⟩
/-- a name lies there -/
def Nam (σ : Mem) (tx from' : Nat) (w : List Int) : Prop := ∀ i (hi : i < w.length), σ tx (from' + i) = w[i]
theorem Nam.eq {σ : Mem} {a p b q : Nat} {v w : List Int} (h1 : Nam σ a p v) (h2 : Nam σ b q w) (hl : v.length = w.length) : (∀ i, i < w.length → σ a (p + i) = σ b (q + i)) ↔ v = w := by
  constructor
  · intro h
    refine List.ext_getElem hl (fun i a b => ?_)
    rw [← h1 i a, ← h2 i b]; exact h i b
  · rintro rfl i hi
    rw [h1 i hi, h2 i hi]
/-- find -/
theorem s31 (d : Nat) {σ : Mem} {t fr : Nat} {L : List (List Int)} {w : List Int} (hL : Lay σ) (ht : isTr t) (hT : MTab t L σ) (hLl : L.length ≤ 700) (hw : Nam σ 9 fr w) (hw12 : w.length ≤ 12) (hfr : fr + w.length ≤ 2000) (R T : zK) (hR : R (fndZ L w) σ) : zCallD (d + 2) 31 [(t : Int), 9, (fr : Int), (w.length : Int)] σ R T := by
  simp only [c_31, b_31, ↓zwq, zpq, zgq, zhq, eq_sto, eq_kill, eq_zSto, eq_mset, eq_zGd, zsq, Int.reduceToNat, List.length_cons, List.length_nil, Nat.reduceAdd, Nat.reduceLT, Nat.reduceEqDiff, Int.reduceLT, Int.reduceLE, Int.reduceEq, Int.reduceNe, Int.reduceNeg, Int.reduceAdd, Int.reduceSub, Int.reduceMul, if_true, if_false, ite_true, ite_false, reduceIte, true_and, and_true, true_implies, forall_const, decide_eq_true_eq, decide_eq_false_iff_not, Bool.not_eq_true', Bool.not_eq_false', Bool.and_eq_true, Bool.or_eq_true, Bool.and_eq_false_iff, Bool.or_eq_false_iff, Bool.not_eq_true, Bool.not_eq_false, Bool.false_eq_true, Bool.true_eq_false, false_implies, implies_true, b2i_ne, b2i_eq, zB_b2i, not_true_eq_false, not_false_eq_true, List.drop_zero, List.drop_succ_cons, zIn_iff, zI8_iff, or_false, false_or, or_true, true_or, and_false, false_and, Decidable.not_not, Int.toNat_natCast, trs ht]
  refine lpW (fun m en s => ∃ i, m = L.length - i ∧ i ≤ L.length ∧ s = σ ∧ (∀ k (hk : k < L.length), k < i → L[k] ≠ w) ∧ en = [(3, (t : Int)), (3, 9), (1, (fr : Int)), (1, (w.length : Int)), (1, (i : Int))]) ?_ L.length _ _ ⟨0, rfl, Nat.zero_le _, rfl, fun k hk hk0 => by omega, rfl⟩
  rintro m en s ⟨i, rfl, hi, rfl, hk, rfl⟩
  by_cases g : i < L.length
  · have g' : ((i : Int) < (L.length : Int)) = True := eq_true (by omega)
    have i1 : (0 : Int) ≤ (i : Int) ∧ (i : Int) < ((700 : Nat) : Int) := by omega
    have hm : L.length - (i + 1) < L.length - i := by omega
    have ib : i < 2147483647 := by omega
    have hsz := (hT.2 i g).1
    have hnm : Nam s (t + 9) (12 * i) L[i] := fun k hk => (hT.2 i g).2 k hk
    have nxt : L[i] ≠ w → ∃ m, m < L.length - i ∧ ∃ i', m = L.length - i' ∧ i' ≤ L.length ∧ (∀ k (hk : k < L.length), k < i' → L[k] ≠ w) ∧ [(3, (t : Int)), (3, 9), (1, (fr : Int)), (1, (w.length : Int)), (1, ((i + 1 : Nat) : Int))] = [(3, (t : Int)), (3, 9), (1, (fr : Int)), (1, (w.length : Int)), (1, (i' : Int))] := fun hne => ⟨_, hm, i + 1, rfl, g, fun k hk1 hk2 => by
      by_cases e : k = i
      · subst e; exact hne
      · exact hk k hk1 (Nat.lt_of_le_of_ne (Nat.le_of_lt_succ hk2) e), rfl⟩
    by_cases hl : L[i].length = w.length
    · have hl' : ((L[i].length : Int) = (w.length : Int)) = True := eq_true (by rw [hl])
      simp only [↓zwq, zpq, zgq, zhq, eq_sto, eq_kill, eq_zSto, eq_mset, eq_zGd, zsq, Int.reduceToNat, List.length_cons, List.length_nil, Nat.reduceAdd, Nat.reduceLT, Nat.reduceEqDiff, Int.reduceLT, Int.reduceLE, Int.reduceEq, Int.reduceNe, Int.reduceNeg, Int.reduceAdd, Int.reduceSub, Int.reduceMul, if_true, if_false, ite_true, ite_false, reduceIte, true_and, and_true, true_implies, forall_const, decide_eq_true_eq, decide_eq_false_iff_not, Bool.not_eq_true', Bool.not_eq_false', Bool.and_eq_true, Bool.or_eq_true, Bool.and_eq_false_iff, Bool.or_eq_false_iff, Bool.not_eq_true, Bool.not_eq_false, Bool.false_eq_true, Bool.true_eq_false, false_implies, implies_true, b2i_ne, b2i_eq, zB_b2i, not_true_eq_false, not_false_eq_true, List.drop_zero, List.drop_succ_cons, zIn_iff, zI8_iff, or_false, false_or, or_true, true_or, and_false, false_and, Decidable.not_not, g', Int.toNat_natCast, trs ht, trq hL ht, hT.1, i1, hsz, hl', w32m12 (Nat.le_trans (Nat.le_of_lt g) hLl)]
      have h2 := Nat.le_trans (Nat.le_of_lt g) hLl
      refine s34 d (a := t + 9) (b := 9) (la := 8400) (lb := 2000) (by omega) (by omega) ((trs ht).2.2.2.2.2.2.2.2.2.1 s) rfl (by omega) hfr (by omega) (by omega) _ _ (fun r hr => ?_)
      rw [Nam.eq hnm hw hl] at hr
      cases r with
      | true =>
        have he : L[i] = w := hr.mp rfl
        have : fndZ L w = (i : Int) := by unfold fndZ; rw [fndI_some g he (fun k hk' => hk k _ hk')]
        rw [this] at hR
        simp only [↓zwq, zpq, zgq, zhq, eq_sto, eq_kill, eq_zSto, eq_mset, eq_zGd, zsq, Int.reduceToNat, List.length_cons, List.length_nil, Nat.reduceAdd, Nat.reduceLT, Nat.reduceEqDiff, Int.reduceLT, Int.reduceLE, Int.reduceEq, Int.reduceNe, Int.reduceNeg, Int.reduceAdd, Int.reduceSub, Int.reduceMul, if_true, if_false, ite_true, ite_false, reduceIte, true_and, and_true, true_implies, forall_const, decide_eq_true_eq, decide_eq_false_iff_not, Bool.not_eq_true', Bool.not_eq_false', Bool.and_eq_true, Bool.or_eq_true, Bool.and_eq_false_iff, Bool.or_eq_false_iff, Bool.not_eq_true, Bool.not_eq_false, Bool.false_eq_true, Bool.true_eq_false, false_implies, implies_true, b2i_ne, b2i_eq, zB_b2i, not_true_eq_false, not_false_eq_true, List.drop_zero, List.drop_succ_cons, zIn_iff, zI8_iff, or_false, false_or, or_true, true_or, and_false, false_and, Decidable.not_not]
        exact hR
      | false =>
        have he : L[i] ≠ w := fun z => absurd (hr.mpr z) (by decide)
        simp only [↓zwq, zpq, zgq, zhq, eq_sto, eq_kill, eq_zSto, eq_mset, eq_zGd, zsq, Int.reduceToNat, List.length_cons, List.length_nil, Nat.reduceAdd, Nat.reduceLT, Nat.reduceEqDiff, Int.reduceLT, Int.reduceLE, Int.reduceEq, Int.reduceNe, Int.reduceNeg, Int.reduceAdd, Int.reduceSub, Int.reduceMul, if_true, if_false, ite_true, ite_false, reduceIte, true_and, and_true, true_implies, forall_const, decide_eq_true_eq, decide_eq_false_iff_not, Bool.not_eq_true', Bool.not_eq_false', Bool.and_eq_true, Bool.or_eq_true, Bool.and_eq_false_iff, Bool.or_eq_false_iff, Bool.not_eq_true, Bool.not_eq_false, Bool.false_eq_true, Bool.true_eq_false, false_implies, implies_true, b2i_ne, b2i_eq, zB_b2i, not_true_eq_false, not_false_eq_true, List.drop_zero, List.drop_succ_cons, zIn_iff, zI8_iff, or_false, false_or, or_true, true_or, and_false, false_and, Decidable.not_not, w32s ib]
        exact nxt he
    · have hl' : ((L[i].length : Int) = (w.length : Int)) = False := eq_false (fun z => hl (Int.ofNat.inj z))
      simp only [↓zwq, zpq, zgq, zhq, eq_sto, eq_kill, eq_zSto, eq_mset, eq_zGd, zsq, Int.reduceToNat, List.length_cons, List.length_nil, Nat.reduceAdd, Nat.reduceLT, Nat.reduceEqDiff, Int.reduceLT, Int.reduceLE, Int.reduceEq, Int.reduceNe, Int.reduceNeg, Int.reduceAdd, Int.reduceSub, Int.reduceMul, if_true, if_false, ite_true, ite_false, reduceIte, true_and, and_true, true_implies, forall_const, decide_eq_true_eq, decide_eq_false_iff_not, Bool.not_eq_true', Bool.not_eq_false', Bool.and_eq_true, Bool.or_eq_true, Bool.and_eq_false_iff, Bool.or_eq_false_iff, Bool.not_eq_true, Bool.not_eq_false, Bool.false_eq_true, Bool.true_eq_false, false_implies, implies_true, b2i_ne, b2i_eq, zB_b2i, not_true_eq_false, not_false_eq_true, List.drop_zero, List.drop_succ_cons, zIn_iff, zI8_iff, or_false, false_or, or_true, true_or, and_false, false_and, Decidable.not_not, g', Int.toNat_natCast, trs ht, trq hL ht, hT.1, i1, hsz, hl', w32s ib]
      exact nxt (fun z => hl (by rw [z]))
  · have g' : ((i : Int) < (L.length : Int)) = False := eq_false (by omega)
    have ei : i = L.length := by omega
    subst ei
    have : fndZ L w = -1 := by unfold fndZ; rw [fndI_none (fun k hk' => hk k hk' hk')]
    rw [this] at hR
    simp only [↓zwq, zpq, zgq, zhq, eq_sto, eq_kill, eq_zSto, eq_mset, eq_zGd, zsq, Int.reduceToNat, List.length_cons, List.length_nil, Nat.reduceAdd, Nat.reduceLT, Nat.reduceEqDiff, Int.reduceLT, Int.reduceLE, Int.reduceEq, Int.reduceNe, Int.reduceNeg, Int.reduceAdd, Int.reduceSub, Int.reduceMul, if_true, if_false, ite_true, ite_false, reduceIte, true_and, and_true, true_implies, forall_const, decide_eq_true_eq, decide_eq_false_iff_not, Bool.not_eq_true', Bool.not_eq_false', Bool.and_eq_true, Bool.or_eq_true, Bool.and_eq_false_iff, Bool.or_eq_false_iff, Bool.not_eq_true, Bool.not_eq_false, Bool.false_eq_true, Bool.true_eq_false, false_implies, implies_true, b2i_ne, b2i_eq, zB_b2i, not_true_eq_false, not_false_eq_true, List.drop_zero, List.drop_succ_cons, zIn_iff, zI8_iff, or_false, false_or, or_true, true_or, and_false, false_and, Decidable.not_not, g', Int.toNat_natCast, trs ht, trq hL ht, hT.1]
    exact hR
/-- addMaker -/
theorem s32 (d : Nat) {σ : Mem} {t tx fr lx : Nat} {L : List (List Int)} {w : List Int} (hL : Lay σ) (ht : isTr t) (hT : MTab t L σ) (hLl : L.length < 700) (hw : Nam σ tx fr w) (hwb : ∀ i (hi : i < w.length), -128 ≤ w[i] ∧ w[i] < 128) (hw12 : w.length ≤ 12) (h12 : ∀ m (hm : m < L.length), L[m].length ≤ 12) (hfr : fr + w.length ≤ lx) (hlx : lx ≤ 100000) (htx : 0 < tx) (stx : ∀ s, zSh s tx = (2, lx)) (ntx : tx ≠ t + 9) (R T : zK)
    (hR : ∀ τ, Fr (fun o k => o == t + 9 || o == t + 10 || (o == t && k == 11)) σ τ → MTab t (L ++ [w]) τ → R (L.length : Int) τ) : zCallD (d + 1) 32 [(t : Int), (tx : Int), (fr : Int), (w.length : Int)] σ R T := by
  have htx' : (0 < (tx : Int)) = True := eq_true (by omega)
  simp only [c_32, b_32, ↓zwq, zpq, zgq, zhq, eq_sto, eq_kill, eq_zSto, eq_mset, eq_zGd, zsq, Int.reduceToNat, List.length_cons, List.length_nil, Nat.reduceAdd, Nat.reduceLT, Nat.reduceEqDiff, Int.reduceLT, Int.reduceLE, Int.reduceEq, Int.reduceNe, Int.reduceNeg, Int.reduceAdd, Int.reduceSub, Int.reduceMul, if_true, if_false, ite_true, ite_false, reduceIte, true_and, and_true, true_implies, forall_const, decide_eq_true_eq, decide_eq_false_iff_not, Bool.not_eq_true', Bool.not_eq_false', Bool.and_eq_true, Bool.or_eq_true, Bool.and_eq_false_iff, Bool.or_eq_false_iff, Bool.not_eq_true, Bool.not_eq_false, Bool.false_eq_true, Bool.true_eq_false, false_implies, implies_true, b2i_ne, b2i_eq, zB_b2i, not_true_eq_false, not_false_eq_true, List.drop_zero, List.drop_succ_cons, zIn_iff, zI8_iff, or_false, false_or, or_true, true_or, and_false, false_and, Decidable.not_not, Int.toNat_natCast, trs ht]
  refine lpW (fun m en s => ∃ i, m = w.length - i ∧ i ≤ w.length ∧ (∀ o k, o ≠ t + 9 → s o k = σ o k) ∧ (∀ k, k < 12 * L.length → s (t + 9) k = σ (t + 9) k) ∧ (∀ k (hk : k < w.length), k < i → s (t + 9) (12 * L.length + k) = w[k]) ∧ en = [(3, (t : Int)), (3, (tx : Int)), (1, (fr : Int)), (1, (w.length : Int)), (1, (i : Int))]) ?_ w.length _ _ ⟨0, rfl, Nat.zero_le _, fun _ _ _ => rfl, fun _ _ => rfl, fun k hk hk0 => by omega, rfl⟩
  rintro m en s ⟨i, rfl, hi, hs, hlo, hk, rfl⟩
  have hLs : Lay s := fun p hp => by
    rw [hs p.1 p.2.1 (fun z => by
      have q := List.all_eq_true.mp (show layL.all (fun p => p.1 != 25 && p.1 != 40 && p.1 != 55 && p.1 != 70) = true by decide) p hp
      simp only [Bool.and_eq_true, bne_iff_ne] at q
      rcases ht with rfl | rfl | rfl | rfl <;> omega)]
    exact hL p hp
  have h11 : s t 11 = (L.length : Int) := (hs t 11 (by omega)).trans hT.1
  by_cases g : i < w.length
  · have g' : ((i : Int) < (w.length : Int)) = True := eq_true (by omega)
    have i1 : (0 : Int) ≤ ((12 * L.length + i : Nat) : Int) ∧ ((12 * L.length + i : Nat) : Int) < ((8400 : Nat) : Int) := by omega
    have i2 : (0 : Int) ≤ ((fr + i : Nat) : Int) ∧ ((fr + i : Nat) : Int) < (lx : Int) := by omega
    have hm : w.length - (i + 1) < w.length - i := by omega
    have ib : i < 2147483647 := by omega
    have ev : s tx (fr + i) = w[i] := (hs tx _ ntx).trans (hw i g)
    have b1 : 12 * L.length + i < 2147483647 := by omega
    have b2 : fr + i < 2147483647 := by omega
    have e1 : w32 (((12 * L.length : Nat) : Int) + (i : Int)) = ((12 * L.length + i : Nat) : Int) := w32add b1
    have e2 : w32 ((fr : Int) + (i : Int)) = ((fr + i : Nat) : Int) := w32add b2
    simp only [↓zwq, zpq, zgq, zhq, eq_sto, eq_kill, eq_zSto, eq_mset, eq_zGd, zsq, Int.reduceToNat, List.length_cons, List.length_nil, Nat.reduceAdd, Nat.reduceLT, Nat.reduceEqDiff, Int.reduceLT, Int.reduceLE, Int.reduceEq, Int.reduceNe, Int.reduceNeg, Int.reduceAdd, Int.reduceSub, Int.reduceMul, if_true, if_false, ite_true, ite_false, reduceIte, true_and, and_true, true_implies, forall_const, decide_eq_true_eq, decide_eq_false_iff_not, Bool.not_eq_true', Bool.not_eq_false', Bool.and_eq_true, Bool.or_eq_true, Bool.and_eq_false_iff, Bool.or_eq_false_iff, Bool.not_eq_true, Bool.not_eq_false, Bool.false_eq_true, Bool.true_eq_false, false_implies, implies_true, b2i_ne, b2i_eq, zB_b2i, not_true_eq_false, not_false_eq_true, List.drop_zero, List.drop_succ_cons, zIn_iff, zI8_iff, or_false, false_or, or_true, true_or, and_false, false_and, Decidable.not_not, g', htx', stx, Int.toNat_natCast, trs ht, trq hLs ht, h11, w32m12 (Nat.le_of_lt hLl), e1, e2, i1, i2, ev, w32s ib, hwb i g]
    refine ⟨_, hm, i + 1, rfl, g, fun o k ho => ?_, fun k hk' => ?_, fun k hk1 hk2 => ?_, rfl⟩
    · rw [if_neg ho]; exact hs o k ho
    · rw [if_neg (by clear e1 e2; omega)]; exact hlo k hk'
    · by_cases e : k = i
      · subst e; simp
      · have : ¬ (12 * L.length + k = 12 * L.length + i) := by clear e1 e2; omega
        simp only [this, if_false, if_true]
        exact hk k hk1 (by clear e1 e2; omega)
  · have g' : ((i : Int) < (w.length : Int)) = False := eq_false (by omega)
    have ei : i = w.length := by omega
    subst ei
    have i1 : (0 : Int) ≤ (L.length : Int) ∧ (L.length : Int) < ((700 : Nat) : Int) := by omega
    have lb : L.length < 2147483647 := by omega
    have e1 : w32 (((L.length + 1 : Nat) : Int) - 1) = (L.length : Int) := by unfold w32; omega
    simp only [↓zwq, zpq, zgq, zhq, eq_sto, eq_kill, eq_zSto, eq_mset, eq_zGd, zsq, Int.reduceToNat, List.length_cons, List.length_nil, Nat.reduceAdd, Nat.reduceLT, Nat.reduceEqDiff, Int.reduceLT, Int.reduceLE, Int.reduceEq, Int.reduceNe, Int.reduceNeg, Int.reduceAdd, Int.reduceSub, Int.reduceMul, if_true, if_false, ite_true, ite_false, reduceIte, true_and, and_true, true_implies, forall_const, decide_eq_true_eq, decide_eq_false_iff_not, Bool.not_eq_true', Bool.not_eq_false', Bool.and_eq_true, Bool.or_eq_true, Bool.and_eq_false_iff, Bool.or_eq_false_iff, Bool.not_eq_true, Bool.not_eq_false, Bool.false_eq_true, Bool.true_eq_false, false_implies, implies_true, b2i_ne, b2i_eq, zB_b2i, not_true_eq_false, not_false_eq_true, List.drop_zero, List.drop_succ_cons, zIn_iff, zI8_iff, or_false, false_or, or_true, true_or, and_false, false_and, Decidable.not_not, g', Int.toNat_natCast, trs ht, trq hLs ht, h11, i1, w32s lb, e1]
    clear e1
    refine hR _ ?_ ?_
    · intro o k ho
      simp only [Bool.or_eq_false_iff, Bool.and_eq_false_iff, beq_eq_false_iff_ne] at ho
      rw [eq_mset, eq_mset]
      rw [if_neg ho.1.2]
      by_cases e : o = t
      · rw [if_pos e, if_neg (ho.2.resolve_left (fun z => z e))]; exact hs o k ho.1.1
      · rw [if_neg e]; exact hs o k ho.1.1
    · refine ⟨by simp [eq_mset], fun m hm => ?_⟩
      have n10 : ¬ t + 10 = t := by omega
      have n9 : ¬ t + 9 = t := by omega
      have n910 : ¬ t + 9 = t + 10 := by omega
      simp only [eq_mset, n10, n9, n910, if_false, if_true]
      by_cases e : m = L.length
      · subst e
        simp only [List.getElem_append_right (Nat.le_refl _), Nat.sub_self, List.getElem_cons_zero, if_true, true_and]
        exact fun i hi => hk i hi hi
      · have hm' : m < L.length := by simp at hm; omega
        simp only [List.getElem_append_left hm', e, if_false]
        refine ⟨(hs _ _ (by omega)).trans (hT.2 m hm').1, fun i hi => ?_⟩
        rw [hlo _ (by have := h12 m hm'; omega)]
        exact (hT.2 m hm').2 i hi
