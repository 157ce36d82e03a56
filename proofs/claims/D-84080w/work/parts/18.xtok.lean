/-! tokens, and how LazyForms reads them -/
def wEnd (tp : Nat → Int) (n p : Nat) : Nat := if h : sWd (chr tp n p) = true then wEnd tp n (p + 1) else p
termination_by n - p
decreasing_by
  have : p < n := chr_lt (by intro e; rw [e] at h; exact absurd h (by decide))
  omega
theorem wEnd_le (tp : Nat → Int) (n p : Nat) : p ≤ wEnd tp n p ∧ (p ≤ n → wEnd tp n p ≤ n) := by
  rw [wEnd]
  split
  · next h =>
    have : p < n := chr_lt (by intro e; rw [e] at h; exact absurd h (by decide))
    have := wEnd_le tp n (p + 1); omega
  · omega
termination_by n - p
def dEnd (tp : Nat → Int) (n p : Nat) : Nat := if h : isD (chr tp n p) = true then dEnd tp n (p + 1) else p
termination_by n - p
decreasing_by
  have : p < n := chr_lt (by intro e; rw [e] at h; exact absurd h (by decide))
  omega
theorem dEnd_le (tp : Nat → Int) (n p : Nat) : p ≤ dEnd tp n p ∧ (p ≤ n → dEnd tp n p ≤ n) := by
  rw [dEnd]
  split
  · next h =>
    have : p < n := chr_lt (by intro e; rw [e] at h; exact absurd h (by decide))
    have := dEnd_le tp n (p + 1); omega
  · omega
termination_by n - p
theorem wEnd_lt {tp : Nat → Int} {n p : Nat} (h : sWd (chr tp n p) = true) : p < wEnd tp n p := by
  rw [wEnd, dif_pos h]; exact (wEnd_le tp n (p + 1)).1
theorem dEnd_lt {tp : Nat → Int} {n p : Nat} (h : isD (chr tp n p) = true) : p < dEnd tp n p := by
  rw [dEnd, dif_pos h]; exact (dEnd_le tp n (p + 1)).1
/-- the kind of a word: 5 let, 6 in, 7 case, 8 of, 2 a name -/
def kwd (tp : Nat → Int) (n p m : Nat) : Nat :=
  if m = 3 ∧ chr tp n p = 108 ∧ chr tp n (p + 1) = 101 ∧ chr tp n (p + 2) = 116 then 5
  else if m = 2 ∧ chr tp n p = 105 ∧ chr tp n (p + 1) = 110 then 6
  else if m = 2 ∧ chr tp n p = 111 ∧ chr tp n (p + 1) = 102 then 8
  else if m = 4 ∧ chr tp n p = 99 ∧ chr tp n (p + 1) = 97 ∧ chr tp n (p + 2) = 115 ∧ chr tp n (p + 3) = 101 then 7
  else 2
def sgn (c d : Int) : Nat × Nat :=
  if c = 40 then (9, 1) else if c = 41 then (10, 1) else if c = 123 then (11, 1) else if c = 125 then (12, 1) else if c = 59 then (13, 1)
  else if c = 92 then (16, 1) else if c = 43 then (17, 1) else if c = 42 then (19, 1) else if c = 47 then (20, 1) else if c = 95 then (24, 1)
  else if c = 45 then (if d = 62 then (15, 2) else (18, 1)) else if c = 61 then (if d = 61 then (23, 2) else (14, 1)) else if c = 60 then (if d = 61 then (22, 2) else (21, 1)) else (1, 1)
/-- the token at a place: its kind, its size -/
def tok (tp : Nat → Int) (n p : Nat) : Nat × Nat :=
  if n ≤ p then (0, 0)
  else if isS (chr tp n p) = true ∨ isG (chr tp n p) = true then (if 12 < wEnd tp n p - p then 1 else if isG (chr tp n p) = true then 3 else kwd tp n p (wEnd tp n p - p), wEnd tp n p - p)
  else if isD (chr tp n p) = true then (if dEnd tp n p - p ≤ 9 ∧ (chr tp n p ≠ 48 ∨ dEnd tp n p - p = 1) then 4 else 1, dEnd tp n p - p)
  else sgn (chr tp n p) (chr tp n (p + 1))
/-- the places of the tokens -/
def plc (tp : Nat → Int) (n : Nat) : Nat → Nat
  | 0 => skp tp n 0
  | k + 1 => skp tp n (plc tp n k + (tok tp n (plc tp n k)).2)
theorem sWd_al {c : Int} (h : isS c = true ∨ isG c = true) : sWd c = true := by
  unfold sWd
  rcases h with h | h <;> rw [h] <;> simp
def sgnL : List (Nat × Nat) := [(9, 1), (10, 1), (11, 1), (12, 1), (13, 1), (16, 1), (17, 1), (19, 1), (20, 1), (24, 1), (15, 2), (18, 1), (23, 2), (14, 1), (22, 2), (21, 1), (1, 1)]
theorem mem_ite {α : Type} {c : Prop} [Decidable c] {a b : α} {l : List α} (h1 : a ∈ l) (h2 : b ∈ l) : (if c then a else b) ∈ l := by
  split
  · exact h1
  · exact h2
theorem sgn_mem (c d : Int) : sgn c d ∈ sgnL := by
  unfold sgn
  repeat' (first | refine mem_ite ?_ ?_ | decide)
theorem sgn_pos (c d : Int) : 1 ≤ (sgn c d).2 ∧ (sgn c d).2 ≤ 2 := (show ∀ x ∈ sgnL, 1 ≤ x.2 ∧ x.2 ≤ 2 by decide) _ (sgn_mem c d)
theorem sgn_two {c d : Int} (h : (sgn c d).2 = 2) : d ≠ 0 := by
  intro e
  subst e
  have : sgn c 0 ∈ ([(9, 1), (10, 1), (11, 1), (12, 1), (13, 1), (16, 1), (17, 1), (19, 1), (20, 1), (24, 1), (18, 1), (14, 1), (21, 1), (1, 1)] : List (Nat × Nat)) := by
    simp only [sgn, show ¬ (0 : Int) = 62 by decide, show ¬ (0 : Int) = 61 by decide, if_false]
    repeat' (first | refine mem_ite ?_ ?_ | decide)
  exact absurd h ((show ∀ x ∈ ([(9, 1), (10, 1), (11, 1), (12, 1), (13, 1), (16, 1), (17, 1), (19, 1), (20, 1), (24, 1), (18, 1), (14, 1), (21, 1), (1, 1)] : List (Nat × Nat)), ¬ x.2 = 2 by decide) _ this)
/-- a token has at least one byte, and ends within the text -/
theorem tok_le {tp : Nat → Int} {n p : Nat} (h : p < n) : 0 < (tok tp n p).2 ∧ p + (tok tp n p).2 ≤ n := by
  unfold tok
  rw [if_neg (by omega)]
  split
  · next h2 =>
    have a := wEnd_lt (sWd_al h2); have b := (wEnd_le tp n p).2 (by omega)
    dsimp only; omega
  · split
    · next h2 =>
      have a := dEnd_lt h2; have b := (dEnd_le tp n p).2 (by omega)
      dsimp only; omega
    · have a := sgn_pos (chr tp n p) (chr tp n (p + 1))
      by_cases h3 : (sgn (chr tp n p) (chr tp n (p + 1))).2 = 2
      · have := chr_lt (sgn_two h3); omega
      · omega
theorem plc_le (tp : Nat → Int) (n k : Nat) : plc tp n k ≤ n := by
  induction k with
  | zero => exact (skp_le tp n 0).2 (Nat.zero_le _)
  | succ k ih =>
    refine (skp_le tp n _).2 ?_
    by_cases h : plc tp n k < n
    · exact (tok_le h).2
    · have : tok tp n (plc tp n k) = (0, 0) := by unfold tok; rw [if_pos (by omega)]
      rw [this]; exact ih
theorem plc_lt {tp : Nat → Int} {n k : Nat} (h : plc tp n k < n) : plc tp n k + (tok tp n (plc tp n k)).2 ≤ plc tp n (k + 1) ∧ plc tp n k < plc tp n (k + 1) := by
  have a := (skp_le tp n (plc tp n k + (tok tp n (plc tp n k)).2)).1
  have b := tok_le (tp := tp) h
  show _ ≤ skp tp n (plc tp n k + (tok tp n (plc tp n k)).2) ∧ _ < skp tp n (plc tp n k + (tok tp n (plc tp n k)).2)
  omega
/-- one token more in the rows -/
def addT (σ : Mem) (K : Nat) (k p m : Int) : Mem := mset (mset (mset (mset σ 10 K k) 11 K p) 12 K m) 8 2 ((K + 1 : Nat) : Int)
theorem XT.add {tp : Nat → Int} {n : Nat} {σ : Mem} (h : XT tp n σ) (K : Nat) (k p m : Int) : XT tp n (addT σ K k p m) :=
  ⟨(((h.1.arr (by decide)).arr (by decide)).arr (by decide)).set (by decide), h.2.1, h.2.2.1, h.2.2.2⟩
theorem s21 (d : Nat) {σ : Mem} (hL : Lay σ) {K : Nat} (hK : σ 8 2 = (K : Int)) (h : K < 2002) (k p m : Int) (R T : zK) : zCallD (d + 1) 21 [8, k, p, m] σ R T = R (w32 (p + m)) (addT σ K k p m) := by
  have e : w32 ((K : Int) + 1) = ((K + 1 : Nat) : Int) := w32s (by omega)
  have e2 : (0 : Int) ≤ (K : Int) ∧ (K : Int) < ((2002 : Nat) : Int) := by omega
  simp only [c_21, b_21, ↓zwq, zpq, zgq, zhq, eq_sto, eq_kill, eq_zSto, eq_mset, eq_zGd, zsq, Int.reduceToNat, List.length_cons, List.length_nil, Nat.reduceAdd, Nat.reduceLT, Nat.reduceEqDiff, Int.reduceLT, Int.reduceLE, Int.reduceEq, Int.reduceNe, Int.reduceNeg, Int.reduceAdd, Int.reduceSub, Int.reduceMul, if_true, if_false, ite_true, ite_false, reduceIte, true_and, and_true, true_implies, forall_const, decide_eq_true_eq, decide_eq_false_iff_not, Bool.not_eq_true', Bool.not_eq_false', Bool.and_eq_true, Bool.or_eq_true, Bool.and_eq_false_iff, Bool.or_eq_false_iff, Bool.not_eq_true, Bool.not_eq_false, Bool.false_eq_true, Bool.true_eq_false, false_implies, implies_true, b2i_ne, b2i_eq, zB_b2i, not_true_eq_false, not_false_eq_true, List.drop_zero, List.drop_succ_cons, zIn_iff, zI8_iff, laq hL, hK, Int.toNat_natCast, e, e2]
  rfl
def isT (tp : Nat → Int) (n p : Nat) (m c d e : Int) : Bool := (decide (m = (if e = 0 then 2 else 3)) && decide (chr tp n p = c) && decide (chr tp n (p + 1) = d)) && (decide (e = 0) || decide (chr tp n (p + 2) = e))
theorem s24 (d : Nat) {tp : Nat → Int} {n p : Nat} {σ : Mem} (h : XT tp n σ) (hp : p ≤ n) (m c e1 e2 : Int) (R T : zK) : zCallD (d + 2) 24 [8, (p : Int), m, c, e1, e2] σ R T = R (b2i (isT tp n p m c e1 e2)) σ := by
  have ⟨hL, h1, h2, h3⟩ := h
  have a1 : w32 ((p : Int) + 1) = ((p + 1 : Nat) : Int) := w32s (by omega)
  have a2 : w32 ((p : Int) + 2) = ((p + 2 : Nat) : Int) := by unfold w32; omega
  simp only [c_24, b_24, ↓zwq, zpq, zgq, zhq, eq_sto, eq_kill, eq_zSto, eq_mset, eq_zGd, zsq, Int.reduceToNat, List.length_cons, List.length_nil, Nat.reduceAdd, Nat.reduceLT, Nat.reduceEqDiff, Int.reduceLT, Int.reduceLE, Int.reduceEq, Int.reduceNe, Int.reduceNeg, Int.reduceAdd, Int.reduceSub, Int.reduceMul, if_true, if_false, ite_true, ite_false, reduceIte, true_and, and_true, true_implies, forall_const, decide_eq_true_eq, decide_eq_false_iff_not, Bool.not_eq_true', Bool.not_eq_false', Bool.and_eq_true, Bool.or_eq_true, Bool.and_eq_false_iff, Bool.or_eq_false_iff, Bool.not_eq_true, Bool.not_eq_false, Bool.false_eq_true, Bool.true_eq_false, false_implies, implies_true, b2i_ne, b2i_eq, zB_b2i, not_true_eq_false, not_false_eq_true, List.drop_zero, List.drop_succ_cons, zIn_iff, zI8_iff, s14 d h, a1, a2]
  unfold isT
  by_cases q1 : m = (if e2 = 0 then 2 else 3)
  · by_cases q2 : chr tp n p = c
    · by_cases q3 : chr tp n (p + 1) = e1
      · by_cases q4 : e2 = 0
        · simp only [q1, q2, q3, q4, decide_true, Bool.true_and, Bool.true_or, true_implies, not_true_eq_false, false_implies, and_true]
        · simp only [q1, q2, q3, q4, decide_true, decide_false, Bool.true_and, Bool.false_or, true_implies, not_true_eq_false, not_false_eq_true, false_implies, and_true, true_and]
      · simp only [q1, q2, q3, decide_true, decide_false, Bool.true_and, Bool.and_false, Bool.false_and, true_implies, not_true_eq_false, not_false_eq_true, false_implies, and_true, true_and]
    · simp only [q1, q2, decide_true, decide_false, Bool.true_and, Bool.and_false, Bool.false_and, true_implies, not_true_eq_false, not_false_eq_true, false_implies, and_true, true_and]
  · simp only [q1, decide_true, decide_false, Bool.true_and, Bool.and_false, Bool.false_and, true_implies, not_true_eq_false, not_false_eq_true, false_implies, and_true, true_and]
