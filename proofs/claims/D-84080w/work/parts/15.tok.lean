/-! small rules; loops; the first tokens -/
theorem b2i_ne (b : Bool) : (b2i b = 0) = (b = false) := by cases b <;> simp [b2i]
theorem b2i_eq (b : Bool) : (b2i b = 1) = (b = true) := by cases b <;> simp [b2i]
theorem zB_b2i (b : Bool) : zB (b2i b) = True := eq_true (by cases b <;> simp [b2i, zB])
theorem zIn_iff (i : Int) (n : Nat) : zIn i n = (0 ≤ i ∧ i < (n : Int)) := rfl
theorem zI8_iff (x : Int) : zI8 x = (-128 ≤ x ∧ x < 128) := rfl
/-- a loop by a measure -/
theorem lpW {c : zC} {b u : zS} {d : Nat} {N : zV} {R T : zK} (I : Nat → List zTV → Mem → Prop)
    (h : ∀ n e s, I n e s → c.1.2 (zCallD d) e s (fun x s1 => (x = true → b.1.2 (zCallD d) e s1 (fun e s2 => u.1.2 (zCallD d) e s2 (fun e s => ∃ m, m < n ∧ I m e s) zF zF R T) N (fun e s2 => u.1.2 (zCallD d) e s2 (fun e s => ∃ m, m < n ∧ I m e s) zF zF R T) R T) ∧ (x = false → N e s1)) T) :
    ∀ n e s, I n e s → zLpW c b u (zCallD d) e s N R T := by
  intro n
  induction n using Nat.strongRecOn with
  | _ n ih =>
    intro e s hi
    refine zLpW_in (zCallD_mono d) ?_
    have hm : ∀ e s, (∃ m, m < n ∧ I m e s) → zLpW c b u (zCallD d) e s N R T := fun e s ⟨m, a, b⟩ => ih m a e s b
    have hu : ∀ e s, u.1.2 (zCallD d) e s (fun e s => ∃ m, m < n ∧ I m e s) zF zF R T → u.1.2 (zCallD d) e s (fun e s => zLpW c b u (zCallD d) e s N R T) zF zF R T := fun e s q => u.2.1 _ _ _ _ _ _ _ _ _ _ _ _ _ _ (zCallD_mono d) hm (fun _ _ => id) (fun _ _ => id) (fun _ _ => id) (fun _ _ => id) q
    exact c.2.1 _ _ _ _ _ _ _ _ (zCallD_mono d) (fun _ _ q => ⟨fun z => b.2.1 _ _ _ _ _ _ _ _ _ _ _ _ _ _ (zCallD_mono d) hu (fun _ _ => id) hu (fun _ _ => id) (fun _ _ => id) (q.1 z), q.2⟩) (fun _ _ => id) (h n e s hi)
def isD (c : Int) : Bool := decide (48 ≤ c) && decide (c ≤ 57)
def isS (c : Int) : Bool := decide (97 ≤ c) && decide (c ≤ 122)
def isG (c : Int) : Bool := decide (65 ≤ c) && decide (c ≤ 90)
def sWd (c : Int) : Bool := isS c || isG c || isD c || decide (c = 95)
theorem s15 (d : Nat) (c : Int) (σ : Mem) (R T : zK) : zCallD (d + 1) 15 [c] σ R T = R (b2i (isS c)) σ := by
  simp only [c_15, b_15, ↓zwq, zpq, zgq, zhq, eq_sto, eq_kill, eq_zSto, eq_mset, eq_zGd, zsq, Int.reduceToNat, List.length_cons, List.length_nil, Nat.reduceAdd, Nat.reduceLT, Nat.reduceEqDiff, Int.reduceLT, Int.reduceLE, Int.reduceEq, Int.reduceNe, Int.reduceNeg, Int.reduceAdd, Int.reduceSub, Int.reduceMul, if_true, if_false, ite_true, ite_false, reduceIte, true_and, and_true, true_implies, forall_const, decide_eq_true_eq, decide_eq_false_iff_not, Bool.not_eq_true', Bool.not_eq_false', Bool.and_eq_true, Bool.or_eq_true, Bool.and_eq_false_iff, Bool.or_eq_false_iff, Bool.not_eq_true, Bool.not_eq_false, Bool.false_eq_true, Bool.true_eq_false, false_implies, implies_true, b2i_ne, b2i_eq, zB_b2i, not_true_eq_false, not_false_eq_true, List.drop_zero, List.drop_succ_cons, zIn_iff, zI8_iff]; rfl
theorem s16 (d : Nat) (c : Int) (σ : Mem) (R T : zK) : zCallD (d + 1) 16 [c] σ R T = R (b2i (isG c)) σ := by
  simp only [c_16, b_16, ↓zwq, zpq, zgq, zhq, eq_sto, eq_kill, eq_zSto, eq_mset, eq_zGd, zsq, Int.reduceToNat, List.length_cons, List.length_nil, Nat.reduceAdd, Nat.reduceLT, Nat.reduceEqDiff, Int.reduceLT, Int.reduceLE, Int.reduceEq, Int.reduceNe, Int.reduceNeg, Int.reduceAdd, Int.reduceSub, Int.reduceMul, if_true, if_false, ite_true, ite_false, reduceIte, true_and, and_true, true_implies, forall_const, decide_eq_true_eq, decide_eq_false_iff_not, Bool.not_eq_true', Bool.not_eq_false', Bool.and_eq_true, Bool.or_eq_true, Bool.and_eq_false_iff, Bool.or_eq_false_iff, Bool.not_eq_true, Bool.not_eq_false, Bool.false_eq_true, Bool.true_eq_false, false_implies, implies_true, b2i_ne, b2i_eq, zB_b2i, not_true_eq_false, not_false_eq_true, List.drop_zero, List.drop_succ_cons, zIn_iff, zI8_iff]; rfl
theorem s17 (d : Nat) (c : Int) (σ : Mem) (R T : zK) : zCallD (d + 1) 17 [c] σ R T = R (b2i (isD c)) σ := by
  simp only [c_17, b_17, ↓zwq, zpq, zgq, zhq, eq_sto, eq_kill, eq_zSto, eq_mset, eq_zGd, zsq, Int.reduceToNat, List.length_cons, List.length_nil, Nat.reduceAdd, Nat.reduceLT, Nat.reduceEqDiff, Int.reduceLT, Int.reduceLE, Int.reduceEq, Int.reduceNe, Int.reduceNeg, Int.reduceAdd, Int.reduceSub, Int.reduceMul, if_true, if_false, ite_true, ite_false, reduceIte, true_and, and_true, true_implies, forall_const, decide_eq_true_eq, decide_eq_false_iff_not, Bool.not_eq_true', Bool.not_eq_false', Bool.and_eq_true, Bool.or_eq_true, Bool.and_eq_false_iff, Bool.or_eq_false_iff, Bool.not_eq_true, Bool.not_eq_false, Bool.false_eq_true, Bool.true_eq_false, false_implies, implies_true, b2i_ne, b2i_eq, zB_b2i, not_true_eq_false, not_false_eq_true, List.drop_zero, List.drop_succ_cons, zIn_iff, zI8_iff]; rfl
theorem s18 (d : Nat) (c : Int) (σ : Mem) (R T : zK) : zCallD (d + 2) 18 [c] σ R T = R (b2i (sWd c)) σ := by
  simp only [c_18, b_18, s15, s16, s17, ↓zwq, zpq, zgq, zhq, eq_sto, eq_kill, eq_zSto, eq_mset, eq_zGd, zsq, Int.reduceToNat, List.length_cons, List.length_nil, Nat.reduceAdd, Nat.reduceLT, Nat.reduceEqDiff, Int.reduceLT, Int.reduceLE, Int.reduceEq, Int.reduceNe, Int.reduceNeg, Int.reduceAdd, Int.reduceSub, Int.reduceMul, if_true, if_false, ite_true, ite_false, reduceIte, true_and, and_true, true_implies, forall_const, decide_eq_true_eq, decide_eq_false_iff_not, Bool.not_eq_true', Bool.not_eq_false', Bool.and_eq_true, Bool.or_eq_true, Bool.and_eq_false_iff, Bool.or_eq_false_iff, Bool.not_eq_true, Bool.not_eq_false, Bool.false_eq_true, Bool.true_eq_false, false_implies, implies_true, b2i_ne, b2i_eq, zB_b2i, not_true_eq_false, not_false_eq_true, List.drop_zero, List.drop_succ_cons, zIn_iff, zI8_iff]
  unfold sWd
  cases isS c <;> cases isG c <;> cases isD c <;> simp
