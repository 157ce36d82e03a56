/-! LazyForms' reader: its state while it reads, small methods -/
def kdT (tp : Nat → Int) (n i : Nat) : Nat := (tok tp n (plc tp n i)).1
def szT (tp : Nat → Int) (n i : Nat) : Nat := (tok tp n (plc tp n i)).2
def plT (tp : Nat → Int) (n i : Nat) : Int := (plc tp n i : Int)
def vlT (tp : Nat → Int) (n i : Nat) : Int := numV tp n (plc tp n i) (szT tp n i)
def nmT (tp : Nat → Int) (n i : Nat) : List Int := (List.range (szT tp n i)).map (fun k => tp (plc tp n i + k))
theorem nlit : (∀ a : Nat, ((a : Int) = 0) = (a = 0)) ∧ (∀ a : Nat, ((a : Int) = 1) = (a = 1)) ∧ (∀ a : Nat, ((a : Int) = 2) = (a = 2)) ∧ (∀ a : Nat, ((a : Int) = 3) = (a = 3)) ∧ (∀ a : Nat, ((a : Int) = 4) = (a = 4)) ∧ (∀ a : Nat, ((a : Int) = 5) = (a = 5)) ∧ (∀ a : Nat, ((a : Int) = 6) = (a = 6)) ∧ (∀ a : Nat, ((a : Int) = 7) = (a = 7)) ∧ (∀ a : Nat, ((a : Int) = 8) = (a = 8)) ∧ (∀ a : Nat, ((a : Int) = 9) = (a = 9)) ∧ (∀ a : Nat, ((a : Int) = 10) = (a = 10)) ∧ (∀ a : Nat, ((a : Int) = 11) = (a = 11)) ∧ (∀ a : Nat, ((a : Int) = 12) = (a = 12)) ∧ (∀ a : Nat, ((a : Int) = 13) = (a = 13)) ∧ (∀ a : Nat, ((a : Int) = 14) = (a = 14)) ∧ (∀ a : Nat, ((a : Int) = 15) = (a = 15)) ∧ (∀ a : Nat, ((a : Int) = 16) = (a = 16)) ∧ (∀ a : Nat, ((a : Int) = 17) = (a = 17)) ∧ (∀ a : Nat, ((a : Int) = 18) = (a = 18)) ∧ (∀ a : Nat, ((a : Int) = 19) = (a = 19)) ∧ (∀ a : Nat, ((a : Int) = 20) = (a = 20)) ∧ (∀ a : Nat, ((a : Int) = 21) = (a = 21)) ∧ (∀ a : Nat, ((a : Int) = 22) = (a = 22)) ∧ (∀ a : Nat, ((a : Int) = 23) = (a = 23)) ∧ (∀ a : Nat, ((a : Int) = 24) = (a = 24)) ∧ (∀ a : Nat, ((a : Int) = -1) = False) := by
  refine ⟨?_, ?_, ?_, ?_, ?_, ?_, ?_, ?_, ?_, ?_, ?_, ?_, ?_, ?_, ?_, ?_, ?_, ?_, ?_, ?_, ?_, ?_, ?_, ?_, ?_, ?_⟩ <;> intro a <;> (try exact propext (by omega))
  exact eq_false (by omega)
def isTr (t : Nat) : Prop := t = 16 ∨ t = 31 ∨ t = 46 ∨ t = 61
def wP (tr o k : Nat) : Bool := (o == 7 && (k == 4 || k == 5 || k == 6 || k == 7)) || (decide (tr + 1 ≤ o) && decide (o ≤ tr + 10)) || (o == tr && (k == 8 || k == 11))
theorem wP_lay {tr : Nat} (h : isTr tr) : layL.all (fun p => !wP tr p.1 p.2.1) = true := by
  rcases h with rfl | rfl | rfl | rfl <;> decide
/-- a tree's final fields and rows -/
theorem trq {σ : Mem} (hL : Lay σ) {t : Nat} (h : isTr t) : (σ t 0 = ((t + 1 : Nat) : Int)) ∧ (σ t 1 = ((t + 2 : Nat) : Int)) ∧ (σ t 2 = ((t + 3 : Nat) : Int)) ∧ (σ t 3 = ((t + 4 : Nat) : Int)) ∧ (σ t 4 = ((t + 5 : Nat) : Int)) ∧ (σ t 5 = ((t + 6 : Nat) : Int)) ∧ (σ t 6 = ((t + 7 : Nat) : Int)) ∧ (σ t 7 = ((t + 8 : Nat) : Int)) ∧ (σ t 9 = ((t + 9 : Nat) : Int)) ∧ (σ t 10 = ((t + 10 : Nat) : Int)) ∧ (σ t 12 = ((t + 11 : Nat) : Int)) ∧ (σ t 13 = ((t + 12 : Nat) : Int)) ∧ (σ t 14 = ((t + 13 : Nat) : Int)) ∧ (σ t 15 = ((t + 14 : Nat) : Int)) := by
  have q := laq hL
  rcases h with rfl | rfl | rfl | rfl <;> simp only [q] <;> decide
theorem trs {t : Nat} (h : isTr t) : (∀ σ : Mem, zSh σ t = (5, 5)) ∧ (∀ σ : Mem, zSh σ (t + 1) = (1, 4096)) ∧ (∀ σ : Mem, zSh σ (t + 2) = (1, 4096)) ∧ (∀ σ : Mem, zSh σ (t + 3) = (1, 4096)) ∧ (∀ σ : Mem, zSh σ (t + 4) = (1, 4096)) ∧ (∀ σ : Mem, zSh σ (t + 5) = (1, 4096)) ∧ (∀ σ : Mem, zSh σ (t + 6) = (1, 4096)) ∧ (∀ σ : Mem, zSh σ (t + 7) = (1, 4096)) ∧ (∀ σ : Mem, zSh σ (t + 8) = (1, 4096)) ∧ (∀ σ : Mem, zSh σ (t + 9) = (2, 8400)) ∧ (∀ σ : Mem, zSh σ (t + 10) = (1, 700)) ∧ (∀ σ : Mem, zSh σ (t + 11) = (2, 492)) ∧ (∀ σ : Mem, zSh σ (t + 12) = (1, 41)) ∧ (∀ σ : Mem, zSh σ (t + 13) = (1, 41)) ∧ (∀ σ : Mem, zSh σ (t + 14) = (1, 41)) ∧ ((0 < (t : Int)) = True) ∧ (∀ j : Nat, (4 < ((t + j : Nat) : Int)) = True) ∧ (∀ j : Nat, (0 < ((t + j : Nat) : Int)) = True) ∧ (∀ j : Nat, (t = t + (j + 1)) = False) ∧ (∀ j : Nat, (t + (j + 1) = t) = False) ∧ (∀ i j : Nat, (t + i = t + j) = (i = j)) := by
  refine ⟨?_, ?_, ?_, ?_, ?_, ?_, ?_, ?_, ?_, ?_, ?_, ?_, ?_, ?_, ?_, eq_true (by rcases h with h | h | h | h <;> omega), fun j => eq_true (by rcases h with h | h | h | h <;> omega), fun j => eq_true (by rcases h with h | h | h | h <;> omega), fun j => eq_false (by omega), fun j => eq_false (by omega), fun i j => propext (by omega)⟩
  all_goals (intro σ; rcases h with rfl | rfl | rfl | rfl <;> rfl)
/-- what stays while a text is read -/
def XS (tp : Nat → Int) (n e tr pr : Nat) (σ : Mem) : Prop := XT tp n σ ∧ (∀ k, k ≤ e → σ 10 k = (kdT tp n k : Int) ∧ σ 11 k = plT tp n k ∧ σ 12 k = (szT tp n k : Int)) ∧ e ≤ 2000 ∧ σ 7 2 = (tr : Int) ∧ σ 7 3 = (pr : Int) ∧ isTr tr ∧ isTr pr ∧ kdT tp n e ≤ 1 ∧ (∀ k, k < e → 2 ≤ kdT tp n k) ∧ ∀ i, i < n → -128 ≤ tp i ∧ tp i < 128
theorem XS.fr {tp : Nat → Int} {n e tr pr : Nat} {σ τ : Mem} (h : XS tp n e tr pr σ) (f : Fr (wP tr) σ τ) : XS tp n e tr pr τ := by
  obtain ⟨⟨a1, a2, a3, a4⟩, b, c, d1, d2, g1, g2, k1, k2, k3⟩ := h
  have q : ∀ o k, o = 8 ∨ o = 9 ∨ o = 10 ∨ o = 11 ∨ o = 12 → τ o k = σ o k := fun o k ho => f o k (by
    rcases g1 with rfl | rfl | rfl | rfl <;> rcases ho with rfl | rfl | rfl | rfl | rfl <;> rfl)
  refine ⟨⟨f.lay (wP_lay g1) a1, (q _ _ (by simp)).trans a2, a3, fun i hi => (q _ _ (by simp)).trans (a4 i hi)⟩, fun k hk => ?_, c, (f 7 2 ?_).trans d1, (f 7 3 ?_).trans d2, g1, g2, k1, k2, k3⟩
  · rw [q 10 k (by simp), q 11 k (by simp), q 12 k (by simp)]; exact b k hk
  · rcases g1 with rfl | rfl | rfl | rfl <;> rfl
  · rcases g1 with rfl | rfl | rfl | rfl <;> rfl
/-- a tree's makers -/
def MTab (t : Nat) (L : List (List Int)) (σ : Mem) : Prop := σ t 11 = (L.length : Int) ∧ ∀ m (hm : m < L.length), σ (t + 10) m = ((L[m]).length : Int) ∧ ∀ i (hi : i < (L[m]).length), σ (t + 9) (12 * m + i) = (L[m])[i]
/-- the tree's makers, and those of the program (if it is another tree) -/
def MTb (tr pr : Nat) (L P : List (List Int)) (σ : Mem) : Prop := MTab tr L σ ∧ (tr ≠ pr → MTab pr P σ)
def XP (tp : Nat → Int) (n e tr pr : Nat) (ml : Nat → List (List Int)) (i o N : Nat) (σ : Mem) : Prop := XS tp n e tr pr σ ∧ σ 7 4 = (i : Int) ∧ σ 7 5 = (o : Int) ∧ σ tr 8 = (N : Int) ∧ i ≤ e ∧ MTb tr pr (ml i) (ml 1000000) σ
/-- LazyForms stops: why, where -/
def XErr (tp : Nat → Int) (n tr f j : Nat) (σ τ : Mem) : Prop := Fr (wP tr) σ τ ∧ τ 7 6 = (f : Int) ∧ τ 7 7 = plT tp n j
theorem MTab.fr {t : Nat} {L : List (List Int)} {σ τ : Mem} (h : MTab t L σ) (h1 : τ t 11 = σ t 11) (h2 : ∀ k, τ (t + 10) k = σ (t + 10) k) (h3 : ∀ k, τ (t + 9) k = σ (t + 9) k) : MTab t L τ :=
  ⟨h1.trans h.1, fun m hm => ⟨(h2 _).trans (h.2 m hm).1, fun i hi => (h3 _).trans ((h.2 m hm).2 i hi)⟩⟩
theorem MTb.fr {tr pr : Nat} {L P : List (List Int)} {σ τ : Mem} (h : MTb tr pr L P σ) (ht : isTr tr) (hp : isTr pr) (f : Fr (wP tr) σ τ) (h1 : τ tr 11 = σ tr 11) (h2 : ∀ k, τ (tr + 10) k = σ (tr + 10) k) (h3 : ∀ k, τ (tr + 9) k = σ (tr + 9) k) : MTb tr pr L P τ := by
  refine ⟨h.1.fr h1 h2 h3, fun hne => (h.2 hne).fr (f _ _ ?_) (fun k => f _ _ ?_) (fun k => f _ _ ?_)⟩
  all_goals (rcases ht with rfl | rfl | rfl | rfl <;> rcases hp with rfl | rfl | rfl | rfl <;> first | exact absurd rfl hne | simp [wP])
section
variable {tp : Nat → Int} {n e tr pr i o N : Nat} {ml : Nat → List (List Int)} {σ : Mem}
theorem XP.lay (h : XP tp n e tr pr ml i o N σ) : Lay σ := h.1.1.1
theorem s36 (d : Nat) (h : XP tp n e tr pr ml i o N σ) (k : Int) (R T : zK) : zCallD (d + 1) 36 [7, k] σ R T = R (b2i (decide ((kdT tp n i : Int) = k))) σ := by
  obtain ⟨hS, h4, h5, h8, hi, hm⟩ := h
  obtain ⟨⟨hL, -, -, -⟩, hb, he, -, -, -, -, -⟩ := hS
  have hin : (0 : Int) ≤ (i : Int) ∧ (i : Int) < ((2002 : Nat) : Int) := by omega
  simp only [c_36, b_36, ↓zwq, zpq, zgq, zhq, eq_sto, eq_kill, eq_zSto, eq_mset, eq_zGd, zsq, Int.reduceToNat, List.length_cons, List.length_nil, Nat.reduceAdd, Nat.reduceLT, Nat.reduceEqDiff, Int.reduceLT, Int.reduceLE, Int.reduceEq, Int.reduceNe, Int.reduceNeg, Int.reduceAdd, Int.reduceSub, Int.reduceMul, if_true, if_false, ite_true, ite_false, reduceIte, true_and, and_true, true_implies, forall_const, decide_eq_true_eq, decide_eq_false_iff_not, Bool.not_eq_true', Bool.not_eq_false', Bool.and_eq_true, Bool.or_eq_true, Bool.and_eq_false_iff, Bool.or_eq_false_iff, Bool.not_eq_true, Bool.not_eq_false, Bool.false_eq_true, Bool.true_eq_false, false_implies, implies_true, b2i_ne, b2i_eq, zB_b2i, not_true_eq_false, not_false_eq_true, List.drop_zero, List.drop_succ_cons, zIn_iff, zI8_iff, or_false, false_or, or_true, true_or, and_false, false_and, Decidable.not_not, laq hL, h4, hin, Int.toNat_natCast, (hb i hi).1]
theorem s37 (d : Nat) (h : XP tp n e tr pr ml i o N σ) (k : Int) (R T : zK) : zCallD (d + 2) 37 [7, k] σ R T = (((kdT tp n i : Int) = k → R 1 (mset σ 7 4 ((i + 1 : Nat) : Int))) ∧ (¬ (kdT tp n i : Int) = k → R 0 σ)) := by
  have hL := h.lay
  have h4 := h.2.1
  have hi := h.2.2.2.2.1
  have he := h.1.2.2.1
  have ew : w32 ((i : Int) + 1) = ((i + 1 : Nat) : Int) := w32s (by omega)
  have zb1 : zB 1 = True := eq_true (Or.inr rfl)
  have zb0 : zB 0 = True := eq_true (Or.inl rfl)
  simp only [c_37, b_37, ↓zwq, zpq, zgq, zhq, eq_sto, eq_kill, eq_zSto, eq_mset, eq_zGd, zsq, Int.reduceToNat, List.length_cons, List.length_nil, Nat.reduceAdd, Nat.reduceLT, Nat.reduceEqDiff, Int.reduceLT, Int.reduceLE, Int.reduceEq, Int.reduceNe, Int.reduceNeg, Int.reduceAdd, Int.reduceSub, Int.reduceMul, if_true, if_false, ite_true, ite_false, reduceIte, true_and, and_true, true_implies, forall_const, decide_eq_true_eq, decide_eq_false_iff_not, Bool.not_eq_true', Bool.not_eq_false', Bool.and_eq_true, Bool.or_eq_true, Bool.and_eq_false_iff, Bool.or_eq_false_iff, Bool.not_eq_true, Bool.not_eq_false, Bool.false_eq_true, Bool.true_eq_false, false_implies, implies_true, b2i_ne, b2i_eq, zB_b2i, not_true_eq_false, not_false_eq_true, List.drop_zero, List.drop_succ_cons, zIn_iff, zI8_iff, or_false, false_or, or_true, true_or, and_false, false_and, Decidable.not_not, laq hL, h4, s36 d h, ew, zb1, zb0]
  exact propext And.comm
theorem s38 (d : Nat) (h : XP tp n e tr pr ml i o N σ) (k : Int) (R T : zK) : zCallD (d + 1) 38 [7, k] σ R T = T 13 (mset (mset σ 7 6 k) 7 7 (plT tp n i)) := by
  have hL := h.lay
  have h4 := h.2.1
  have hi := h.2.2.2.2.1
  have he := h.1.2.2.1
  have hb := (h.1.2.1 i hi).2.1
  have hin : (0 : Int) ≤ (i : Int) ∧ (i : Int) < ((2002 : Nat) : Int) := by omega
  simp only [c_38, b_38, ↓zwq, zpq, zgq, zhq, eq_sto, eq_kill, eq_zSto, eq_mset, eq_zGd, zsq, Int.reduceToNat, List.length_cons, List.length_nil, Nat.reduceAdd, Nat.reduceLT, Nat.reduceEqDiff, Int.reduceLT, Int.reduceLE, Int.reduceEq, Int.reduceNe, Int.reduceNeg, Int.reduceAdd, Int.reduceSub, Int.reduceMul, if_true, if_false, ite_true, ite_false, reduceIte, true_and, and_true, true_implies, forall_const, decide_eq_true_eq, decide_eq_false_iff_not, Bool.not_eq_true', Bool.not_eq_false', Bool.and_eq_true, Bool.or_eq_true, Bool.and_eq_false_iff, Bool.or_eq_false_iff, Bool.not_eq_true, Bool.not_eq_false, Bool.false_eq_true, Bool.true_eq_false, false_implies, implies_true, b2i_ne, b2i_eq, zB_b2i, not_true_eq_false, not_false_eq_true, List.drop_zero, List.drop_succ_cons, zIn_iff, zI8_iff, or_false, false_or, or_true, true_or, and_false, false_and, Decidable.not_not, laq hL, h4, hin, Int.toNat_natCast, hb]
theorem XErr.of (h : XP tp n e tr pr ml i o N σ) (f : Nat) : XErr tp n tr f i σ (mset (mset σ 7 6 (f : Int)) 7 7 (plT tp n i)) :=
  ⟨(Fr.rf.set (by simp [wP])).set (by simp [wP]), by simp [eq_mset], by simp [eq_mset]⟩
theorem s39 (d : Nat) (h : XP tp n e tr pr ml i o N σ) (k : Int) (R T : zK) : zCallD (d + 3) 39 [7, k] σ R T = (((kdT tp n i : Int) = k → R 0 (mset σ 7 4 ((i + 1 : Nat) : Int))) ∧ (¬ (kdT tp n i : Int) = k → T 13 (mset (mset σ 7 6 1) 7 7 (plT tp n i)))) := by
  have hL := h.lay
  simp only [c_39, b_39, ↓zwq, zpq, zgq, zhq, eq_sto, eq_kill, eq_zSto, eq_mset, eq_zGd, zsq, Int.reduceToNat, List.length_cons, List.length_nil, Nat.reduceAdd, Nat.reduceLT, Nat.reduceEqDiff, Int.reduceLT, Int.reduceLE, Int.reduceEq, Int.reduceNe, Int.reduceNeg, Int.reduceAdd, Int.reduceSub, Int.reduceMul, if_true, if_false, ite_true, ite_false, reduceIte, true_and, and_true, true_implies, forall_const, decide_eq_true_eq, decide_eq_false_iff_not, Bool.not_eq_true', Bool.not_eq_false', Bool.and_eq_true, Bool.or_eq_true, Bool.and_eq_false_iff, Bool.or_eq_false_iff, Bool.not_eq_true, Bool.not_eq_false, Bool.false_eq_true, Bool.true_eq_false, false_implies, implies_true, b2i_ne, b2i_eq, zB_b2i, not_true_eq_false, not_false_eq_true, List.drop_zero, List.drop_succ_cons, zIn_iff, zI8_iff, or_false, false_or, or_true, true_or, and_false, false_and, Decidable.not_not, laq hL, s37 d h, s38 (d + 1) h]
end
