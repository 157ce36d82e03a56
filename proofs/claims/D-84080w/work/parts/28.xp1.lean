/-! LazyForms' reader: nodes -/
def addN (tr N : Nat) (f w x y z : Int) (σ : Mem) : Mem :=
  mset (mset (mset (mset (mset (mset (mset (mset (mset σ tr 8 ((N + 1 : Nat) : Int)) (tr + 1) N f) (tr + 2) N w) (tr + 3) N x) (tr + 4) N y) (tr + 5) N z) (tr + 6) N 0) (tr + 7) N (-1)) (tr + 8) N (-1)
/-- the rows of a tree -/
def xr (σ : Mem) (tr f k : Nat) : Int := if f < 8 then σ (tr + 1 + f) k else 0
theorem addN_out {tr N : Nat} {f w x y z : Int} {σ : Mem} {o k : Nat} (h1 : o = tr → k ≠ 8) (h2 : tr + 1 ≤ o → o ≤ tr + 8 → k ≠ N) : addN tr N f w x y z σ o k = σ o k := by
  unfold addN
  simp only [eq_mset]
  by_cases hr : tr + 1 ≤ o ∧ o ≤ tr + 8
  · have hk := h2 hr.1 hr.2
    simp only [hk, if_false, ite_self, show ¬ o = tr by omega]
  · simp only [show ¬ o = tr + 1 by omega, show ¬ o = tr + 2 by omega, show ¬ o = tr + 3 by omega, show ¬ o = tr + 4 by omega, show ¬ o = tr + 5 by omega, show ¬ o = tr + 6 by omega, show ¬ o = tr + 7 by omega, show ¬ o = tr + 8 by omega, if_false]
    split
    · next h => rw [if_neg (h1 h)]
    · rfl
theorem addN_at (tr N : Nat) (f w x y z : Int) (σ : Mem) : addN tr N f w x y z σ tr 8 = ((N + 1 : Nat) : Int) ∧ addN tr N f w x y z σ (tr + 1) N = f ∧ addN tr N f w x y z σ (tr + 2) N = w ∧ addN tr N f w x y z σ (tr + 3) N = x ∧ addN tr N f w x y z σ (tr + 4) N = y ∧ addN tr N f w x y z σ (tr + 5) N = z ∧ addN tr N f w x y z σ (tr + 6) N = 0 ∧ addN tr N f w x y z σ (tr + 7) N = -1 ∧ addN tr N f w x y z σ (tr + 8) N = -1 := by
  simp [addN, eq_mset]
theorem xr_add {tr N : Nat} {f w x y z : Int} {σ : Mem} (j k : Nat) : xr (addN tr N f w x y z σ) tr j k = if k = N then (if j = 0 then f else if j = 1 then w else if j = 2 then x else if j = 3 then y else if j = 4 then z else if j = 5 then 0 else if j = 6 then -1 else if j = 7 then -1 else 0) else xr σ tr j k := by
  unfold xr
  by_cases hj : j < 8
  · simp only [if_pos hj]
    by_cases hk : k = N
    · subst hk
      rw [if_pos rfl]
      have q := addN_at tr k f w x y z σ
      rcases (show j = 0 ∨ j = 1 ∨ j = 2 ∨ j = 3 ∨ j = 4 ∨ j = 5 ∨ j = 6 ∨ j = 7 by omega) with rfl | rfl | rfl | rfl | rfl | rfl | rfl | rfl
      · exact q.2.1
      · exact q.2.2.1
      · exact q.2.2.2.1
      · exact q.2.2.2.2.1
      · exact q.2.2.2.2.2.1
      · exact q.2.2.2.2.2.2.1
      · exact q.2.2.2.2.2.2.2.1
      · exact q.2.2.2.2.2.2.2.2
    · rw [if_neg hk]
      exact addN_out (fun z => by omega) (fun _ _ => hk)
  · simp only [if_neg hj]
    split
    · repeat' split
      all_goals first | omega | rfl
    · rfl
theorem s30 (d : Nat) {tr N : Nat} {σ : Mem} (hL : Lay σ) (ht : isTr tr) (h8 : σ tr 8 = (N : Int)) (hN : N < 4096) (f w x y z : Int) (R T : zK) : zCallD (d + 1) 30 [(tr : Int), f, w, x, y, z] σ R T = R (N : Int) (addN tr N f w x y z σ) := by
  have hin : (0 : Int) ≤ (N : Int) ∧ (N : Int) < ((4096 : Nat) : Int) := by omega
  simp only [c_30, b_30, ↓zwq, zpq, zgq, zhq, eq_sto, eq_kill, eq_zSto, eq_mset, eq_zGd, zsq, Int.reduceToNat, List.length_cons, List.length_nil, Nat.reduceAdd, Nat.reduceLT, Nat.reduceEqDiff, Int.reduceLT, Int.reduceLE, Int.reduceEq, Int.reduceNe, Int.reduceNeg, Int.reduceAdd, Int.reduceSub, Int.reduceMul, if_true, if_false, ite_true, ite_false, reduceIte, true_and, and_true, true_implies, forall_const, decide_eq_true_eq, decide_eq_false_iff_not, Bool.not_eq_true', Bool.not_eq_false', Bool.and_eq_true, Bool.or_eq_true, Bool.and_eq_false_iff, Bool.or_eq_false_iff, Bool.not_eq_true, Bool.not_eq_false, Bool.false_eq_true, Bool.true_eq_false, false_implies, implies_true, b2i_ne, b2i_eq, zB_b2i, not_true_eq_false, not_false_eq_true, List.drop_zero, List.drop_succ_cons, zIn_iff, zI8_iff, or_false, false_or, or_true, true_or, and_false, false_and, Decidable.not_not, Int.toNat_natCast, trq hL ht, trs ht, h8, hin, w32s (show N < 2147483647 by omega)]
  rfl
def XFr (tr N : Nat) (σ τ : Mem) : Prop := Fr (wP tr) σ τ ∧ ∀ f k, k < N → xr τ tr f k = xr σ tr f k
theorem XFr.rf {tr N : Nat} {σ : Mem} : XFr tr N σ σ := ⟨Fr.rf, fun _ _ _ => rfl⟩
theorem XFr.tr {t N M : Nat} {σ τ υ : Mem} (h : XFr t N σ τ) (g : XFr t M τ υ) (hl : N ≤ M) : XFr t N σ υ := ⟨h.1.tr g.1, fun f k hk => (g.2 f k (by omega)).trans (h.2 f k hk)⟩
theorem Fr.addN {tr N : Nat} {f w x y z : Int} {σ : Mem} : Fr (wP tr) σ (addN tr N f w x y z σ) := by
  intro o k hw
  simp only [wP, Bool.or_eq_false_iff, Bool.and_eq_false_iff, decide_eq_false_iff_not, beq_eq_false_iff_ne] at hw
  refine addN_out (fun z => ?_) (fun a b => ?_)
  · rcases hw.2 with q | q
    · exact absurd z q
    · exact q.1
  · rcases hw.1.2 with q | q <;> omega
theorem XFr.addN {tr N : Nat} {f w x y z : Int} {σ : Mem} : XFr tr N σ (addN tr N f w x y z σ) := ⟨Fr.addN, fun j k hk => by rw [xr_add, if_neg (by omega)]⟩
section
variable {tp : Nat → Int} {n e tr pr i o N : Nat} {ml : Nat → List (List Int)} {σ : Mem}
theorem XP.out (h : XP tp n e tr pr ml i o N σ) {a b : Nat} {v : Int} (hw : wP tr a b = true) (h1 : a = 7 → b ≠ 4 ∧ b ≠ 5) (h2 : a ≠ tr) (h3 : a ≠ tr + 9) (h4 : a ≠ tr + 10) : XP tp n e tr pr ml i o N (mset σ a b v) := by
  obtain ⟨hS, a4, a5, a8, hi, hm⟩ := h
  have ht := hS.2.2.2.2.2.1
  refine ⟨hS.fr (Fr.rf.set hw), ?_, ?_, ?_, hi, hm.fr ht hS.2.2.2.2.2.2.1 (Fr.rf.set hw) ?_ ?_ ?_⟩
  · rw [eq_mset]; split
    · next e1 => rw [if_neg (fun z => (h1 e1.symm).1 z.symm)]; exact a4
    · exact a4
  · rw [eq_mset]; split
    · next e1 => rw [if_neg (fun z => (h1 e1.symm).2 z.symm)]; exact a5
    · exact a5
  · rw [eq_mset, if_neg (Ne.symm h2)]; exact a8
  · rw [eq_mset, if_neg (Ne.symm h2)]
  · intro k; rw [eq_mset, if_neg (Ne.symm h4)]
  · intro k; rw [eq_mset, if_neg (Ne.symm h3)]
/-- the next token -/
theorem XP.next (h : XP tp n e tr pr ml i o N σ) (hi : i < e) (hm : ml (i + 1) = ml i) : XP tp n e tr pr ml (i + 1) o N (mset σ 7 4 ((i + 1 : Nat) : Int)) := by
  obtain ⟨hS, a4, a5, a8, -, hmt⟩ := h
  have ht := hS.2.2.2.2.2.1
  have h7 : tr ≠ 7 ∧ tr + 10 ≠ 7 ∧ tr + 9 ≠ 7 := by rcases ht with h | h | h | h <;> omega
  refine ⟨hS.fr (Fr.rf.set (by simp [wP])), by simp [eq_mset], by simp [eq_mset, a5], by simp [eq_mset, h7.1, a8], hi, ?_⟩
  rw [hm]
  refine hmt.fr ht hS.2.2.2.2.2.2.1 (Fr.rf.set (by simp [wP])) ?_ ?_ ?_
  · rw [eq_mset, if_neg h7.1]
  · intro k; rw [eq_mset, if_neg h7.2.1]
  · intro k; rw [eq_mset, if_neg h7.2.2]
theorem XFr.at7 {k b : Nat} {v : Int} (ht : isTr tr) (hb : b = 4 ∨ b = 5 ∨ b = 6 ∨ b = 7) : XFr tr k σ (mset σ 7 b v) := by
  refine ⟨Fr.rf.set (by rcases hb with rfl | rfl | rfl | rfl <;> simp [wP]), fun f j _ => ?_⟩
  unfold xr
  split
  · rw [eq_mset, if_neg (by rcases ht with h | h | h | h <;> omega)]
  · rfl
theorem xr_set {f k a : Nat} {v : Int} (ha : a = tr + 1 + f) (hf : f < 8) (g j : Nat) : xr (mset σ a k v) tr g j = if g = f ∧ j = k then v else xr σ tr g j := by
  unfold xr
  by_cases hg : g < 8
  · simp only [if_pos hg, eq_mset]
    by_cases h1 : g = f
    · subst h1
      rw [if_pos ha.symm]
      by_cases h2 : j = k
      · rw [if_pos h2, if_pos ⟨rfl, h2⟩]
      · rw [if_neg h2, if_neg (fun z => h2 z.2)]
    · rw [if_neg (by omega), if_neg (fun z => h1 z.1)]
  · simp only [if_neg hg]
    rw [if_neg (fun z => by omega)]
theorem XFr.setn {τ : Mem} {M f k a : Nat} {v : Int} (h : XFr tr M σ τ) (ha : a = tr + 1 + f) (hf : f < 8) (hk : M ≤ k) : XFr tr M σ (mset τ a k v) := by
  refine ⟨h.1.set (by simp [wP]; omega), fun g j hj => ?_⟩
  rw [xr_set ha hf, if_neg (fun z => by omega)]
  exact h.2 g j hj
theorem XP.setn (h : XP tp n e tr pr ml i o N σ) {f k a : Nat} {v : Int} (ha : a = tr + 1 + f) (hf : f < 8) : XP tp n e tr pr ml i o N (mset σ a k v) := by
  have ht := h.1.2.2.2.2.2.1
  refine h.out (by simp [wP]; omega) (by rcases ht with z | z | z | z <;> omega) (by omega) (by omega) (by omega)
theorem XP.addN (h : XP tp n e tr pr ml i o N σ) (f w x y z : Int) : XP tp n e tr pr ml i o (N + 1) (addN tr N f w x y z σ) := by
  obtain ⟨hS, a4, a5, a8, hi, hm⟩ := h
  have ht := hS.2.2.2.2.2.1
  have h7 : tr ≠ 7 ∧ 7 < tr := by rcases ht with h | h | h | h <;> omega
  refine ⟨hS.fr Fr.addN, ?_, ?_, (addN_at tr N f w x y z σ).1, hi, hm.fr ht hS.2.2.2.2.2.2.1 Fr.addN ?_ ?_ ?_⟩
  · rw [addN_out (fun z => absurd z.symm h7.1) (fun a b => by omega)]; exact a4
  · rw [addN_out (fun z => absurd z.symm h7.1) (fun a b => by omega)]; exact a5
  · exact addN_out (fun _ => by decide) (fun a b => by omega)
  · intro k; exact addN_out (fun z => by omega) (fun a b => by omega)
  · intro k; exact addN_out (fun z => by omega) (fun a b => by omega)
end
