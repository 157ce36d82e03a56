/-! LazyFormsModel's tokens -/
def mKd (k : Nat) : Nat := if k ≤ 4 then k else if k ≤ 8 then k + 1 else 5
def mVl (k : Nat) : Int := if k = 9 then 40 else if k = 10 then 41 else if k = 11 then 123 else if k = 12 then 125 else if k = 13 then 59 else if k = 14 then 61 else if k = 15 then 256 else if k = 16 then 92 else if k = 17 then 43 else if k = 18 then 45 else if k = 19 then 42 else if k = 20 then 47 else if k = 21 then 60 else if k = 22 then 257 else if k = 23 then 258 else 95
/-- a number's value -/
def numV (tp : Nat → Int) (n p : Nat) : Nat → Int
  | 0 => 0
  | m + 1 => 10 * numV tp n p m + (chr tp n (p + m) - 48)
theorem dEnd_all {tp : Nat → Int} {n p i : Nat} (h1 : p ≤ i) (h2 : i < dEnd tp n p) : isD (chr tp n i) = true := by
  rw [dEnd] at h2
  split at h2
  · next g =>
    have hn : p < n := chr_lt (by intro e; rw [e] at g; exact absurd g (by decide))
    by_cases e : i = p
    · rw [e]; exact g
    · exact dEnd_all (by omega) h2
  · omega
termination_by n - p
theorem isD_bd {c : Int} (h : isD c = true) : 48 ≤ c ∧ c ≤ 57 := by simpa [isD] using h
theorem numV_bd {tp : Nat → Int} {n p : Nat} : ∀ {m : Nat}, (∀ i, i < m → isD (chr tp n (p + i)) = true) → 0 ≤ numV tp n p m ∧ numV tp n p m < 10 ^ m
  | 0, _ => by simp [numV]
  | m + 1, h => by
    have a := numV_bd (m := m) (fun i hi => h i (by omega))
    have b := isD_bd (h m (by omega))
    show 0 ≤ 10 * numV tp n p m + (chr tp n (p + m) - 48) ∧ 10 * numV tp n p m + (chr tp n (p + m) - 48) < 10 ^ (m + 1)
    rw [Int.pow_succ]
    generalize (10 : Int) ^ m = x at a ⊢
    omega
theorem pow9 {m : Nat} (h : m ≤ 9) : (10 : Int) ^ m ≤ 1000000000 := by
  have : (10 : Nat) ^ m ≤ 10 ^ 9 := Nat.pow_le_pow_right (by decide) h
  have e : ((10 ^ m : Nat) : Int) = (10 : Int) ^ m := by simp
  rw [← e]; omega
def mTv (tp : Nat → Int) (n A p : Nat) : Int := if 9 ≤ (tok tp n p).1 then mVl (tok tp n p).1 else if (tok tp n p).1 = 4 then numV tp n p (tok tp n p).2 else ((2000 * A + p : Nat) : Int)
def wAt (K : Nat) (o k : Nat) : Bool := (o == 94 || o == 95) && k == K
theorem wAt_lay (K : Nat) : layL.all (fun p => !wAt K p.1 p.2.1) = true := by
  rw [List.all_eq_true]
  intro p hp
  have : p.1 ≠ 94 ∧ p.1 ≠ 95 := (show ∀ p ∈ layL, p.1 ≠ 94 ∧ p.1 ≠ 95 by decide) p hp
  simp [wAt, this]
/-- isWord -/
def isW (tp : Nat → Int) (n p m k : Nat) (a b c e : Int) : Bool := decide (m = k) && decide (chr tp n p = a) && decide (chr tp n (p + 1) = b) && (decide (k < 3) || decide (chr tp n (p + 2) = c)) && (decide (k < 4) || decide (chr tp n (p + 3) = e))
theorem ub_is {x c : Int} (h1 : -128 ≤ x) (h2 : x < 128) (hc : 0 < c) (hc2 : c < 128) : (x = c) = (x % 256 = c) := propext ⟨fun z => by omega, fun z => by omega⟩
theorem s138 (d : Nat) {tp : Nat → Int} {n A p m : Nat} {σ : Mem} (h : MT tp n A σ) (hp : p + m ≤ n) (k : Nat) (a b c e : Int) (ha : 0 < a ∧ a < 128) (hb : 0 < b ∧ b < 128) (hc : c = 0 ∨ 0 < c ∧ c < 128) (he : e = 0 ∨ 0 < e ∧ e < 128) (hk : k = if 0 < e then 4 else if 0 < c then 3 else 2) (hce : 0 < e → 0 < c) (R T : zK) :
    zCallD (d + 1) 138 [90, ((2000 * A + p : Nat) : Int), (m : Int), a, b, c, e] σ R T = R (b2i (isW tp n p m k a b c e)) σ := by
  have ⟨hL, h1, h2, h3, h4, h5, h6⟩ := h
  have hb0 : 2000 * A + p < 2147483640 := by omega
  have hkk : (if 0 < e then (4 : Int) else if 0 < c then 3 else 2) = (k : Int) := by rw [hk]; split <;> (try split) <;> rfl
  have hin : ∀ i, i < n → (0 : Int) ≤ ((2000 * A + i : Nat) : Int) ∧ ((2000 * A + i : Nat) : Int) < ((8011 : Nat) : Int) := fun i hi => by omega
  have hv : ∀ i c, i < n → 0 < c → c < 128 → (σ 92 (2000 * A + i) = c) = (chr tp n i = c) := fun i c hi q1 q2 => by
    rw [h5 i hi, ub_is (h6 i hi).1 (h6 i hi).2 q1 q2]; unfold chr; rw [if_pos hi]
  simp only [c_138, b_138, ↓zwq, zpq, zgq, zhq, eq_sto, eq_kill, eq_zSto, eq_mset, eq_zGd, zsq, Int.reduceToNat, List.length_cons, List.length_nil, Nat.reduceAdd, Nat.reduceLT, Nat.reduceEqDiff, Int.reduceLT, Int.reduceLE, Int.reduceEq, Int.reduceNe, Int.reduceNeg, Int.reduceAdd, Int.reduceSub, Int.reduceMul, if_true, if_false, ite_true, ite_false, reduceIte, true_and, and_true, true_implies, forall_const, decide_eq_true_eq, decide_eq_false_iff_not, Bool.not_eq_true', Bool.not_eq_false', Bool.and_eq_true, Bool.or_eq_true, Bool.and_eq_false_iff, Bool.or_eq_false_iff, Bool.not_eq_true, Bool.not_eq_false, Bool.false_eq_true, Bool.true_eq_false, false_implies, implies_true, b2i_ne, b2i_eq, zB_b2i, not_true_eq_false, not_false_eq_true, List.drop_zero, List.drop_succ_cons, zIn_iff, zI8_iff, laq hL, w32b hb0, w32bp2 hb0, w32bp3 hb0, Int.toNat_natCast, hkk]
  unfold isW
  by_cases em : m = k
  · have hm2 : 2 ≤ m := by rw [em, hk]; split <;> (try split) <;> omega
    have em' : ((m : Int) = (k : Int)) = True := eq_true (by rw [em])
    have i0 := hin p (by omega)
    have i1 := hin (p + 1) (by omega)
    have v0 := hv p a (by omega) ha.1 ha.2
    have v1 := hv (p + 1) b (by omega) hb.1 hb.2
    by_cases he0 : 0 < e
    · rw [if_pos he0] at hk
      have k3 : ((k : Int) < 3) = False := eq_false (by omega)
      have k4 : ((k : Int) < 4) = False := eq_false (by omega)
      have k3' : (k < 3) = False := eq_false (by omega)
      have k4' : (k < 4) = False := eq_false (by omega)
      have i2 := hin (p + 2) (by omega)
      have i3 := hin (p + 3) (by omega)
      have v2 := hv (p + 2) c (by omega) (by omega) (by omega)
      have v3 := hv (p + 3) e (by omega) (by omega) (by omega)
      simp only [em, em', k3, k4, k3', k4', v0, v1, v2, v3, i2, i3, i0, i1, decide_true, decide_false, Bool.true_and, Bool.true_or, Bool.false_or, Bool.and_true, true_and, and_true, not_true_eq_false, not_false_eq_true, false_implies, true_implies, implies_true, true_or, false_or]
    · rw [if_neg he0] at hk
      by_cases hc0 : 0 < c
      · rw [if_pos hc0] at hk
        have k3 : ((k : Int) < 3) = False := eq_false (by omega)
        have k4 : ((k : Int) < 4) = True := eq_true (by omega)
        have k3' : (k < 3) = False := eq_false (by omega)
        have k4' : (k < 4) = True := eq_true (by omega)
        have i2 := hin (p + 2) (by omega)
        have v2 := hv (p + 2) c (by omega) (by omega) (by omega)
        simp only [em, em', k3, k4, k3', k4', v0, v1, v2, i2, i0, i1, decide_true, decide_false, Bool.true_and, Bool.true_or, Bool.false_or, Bool.and_true, true_and, and_true, not_true_eq_false, not_false_eq_true, false_implies, true_implies, implies_true, true_or, false_or]
      · rw [if_neg hc0] at hk
        have k3 : ((k : Int) < 3) = True := eq_true (by omega)
        have k4 : ((k : Int) < 4) = True := eq_true (by omega)
        have k3' : (k < 3) = True := eq_true (by omega)
        have k4' : (k < 4) = True := eq_true (by omega)
        simp only [em, em', k3, k4, k3', k4', v0, v1,  i0, i1, decide_true, decide_false, Bool.true_and, Bool.true_or, Bool.false_or, Bool.and_true, true_and, and_true, not_true_eq_false, not_false_eq_true, false_implies, true_implies, implies_true, true_or, false_or]
  · have em' : ((m : Int) = (k : Int)) = False := eq_false (fun z => em (Int.ofNat.inj z))
    simp only [em, em', decide_false, Bool.false_and, Bool.and_false, false_and, false_implies, true_and, and_true, implies_true]
theorem s139 (d : Nat) {tp : Nat → Int} {n A p m : Nat} {σ : Mem} (h : MT tp n A σ) (hp : p + m ≤ n) (R T : zK) :
    zCallD (d + 2) 139 [90, ((2000 * A + p : Nat) : Int), (m : Int)] σ R T = R (mKd (kwd tp n p m) : Int) σ := by
  have hL := h.1
  have q1 := fun R => s138 d h hp 3 108 101 116 0 (by decide) (by decide) (by decide) (by decide) (by decide) (by decide) R T
  have q2 := fun R => s138 d h hp 2 105 110 0 0 (by decide) (by decide) (by decide) (by decide) (by decide) (by decide) R T
  have q3 := fun R => s138 d h hp 4 99 97 115 101 (by decide) (by decide) (by decide) (by decide) (by decide) (by decide) R T
  have q4 := fun R => s138 d h hp 2 111 102 0 0 (by decide) (by decide) (by decide) (by decide) (by decide) (by decide) R T
  have a1 : isW tp n p m 3 108 101 116 0 = true ↔ (m = 3 ∧ chr tp n p = 108 ∧ chr tp n (p + 1) = 101 ∧ chr tp n (p + 2) = 116) := by simp [isW, and_assoc]
  have a2 : isW tp n p m 2 105 110 0 0 = true ↔ (m = 2 ∧ chr tp n p = 105 ∧ chr tp n (p + 1) = 110) := by simp [isW, and_assoc]
  have a3 : isW tp n p m 4 99 97 115 101 = true ↔ (m = 4 ∧ chr tp n p = 99 ∧ chr tp n (p + 1) = 97 ∧ chr tp n (p + 2) = 115 ∧ chr tp n (p + 3) = 101) := by simp [isW, and_assoc]
  have a4 : isW tp n p m 2 111 102 0 0 = true ↔ (m = 2 ∧ chr tp n p = 111 ∧ chr tp n (p + 1) = 102) := by simp [isW, and_assoc]
  unfold kwd
  simp only [← a1, ← a2, ← a3, ← a4]
  simp only [c_139, b_139, ↓zwq, zpq, zgq, zhq, eq_sto, eq_kill, eq_zSto, eq_mset, eq_zGd, zsq, Int.reduceToNat, List.length_cons, List.length_nil, Nat.reduceAdd, Nat.reduceLT, Nat.reduceEqDiff, Int.reduceLT, Int.reduceLE, Int.reduceEq, Int.reduceNe, Int.reduceNeg, Int.reduceAdd, Int.reduceSub, Int.reduceMul, if_true, if_false, ite_true, ite_false, reduceIte, true_and, and_true, true_implies, forall_const, decide_eq_true_eq, decide_eq_false_iff_not, Bool.not_eq_true', Bool.not_eq_false', Bool.and_eq_true, Bool.or_eq_true, Bool.and_eq_false_iff, Bool.or_eq_false_iff, Bool.not_eq_true, Bool.not_eq_false, Bool.false_eq_true, Bool.true_eq_false, false_implies, implies_true, b2i_ne, b2i_eq, zB_b2i, not_true_eq_false, not_false_eq_true, List.drop_zero, List.drop_succ_cons, zIn_iff, zI8_iff, laq hL, q1, q2, q3, q4]
  cases isW tp n p m 3 108 101 116 0 with
  | true => simp [mKd]
  | false =>
    cases isW tp n p m 2 105 110 0 0 with
    | true => simp [mKd]
    | false =>
      cases g3 : isW tp n p m 4 99 97 115 101 with
      | true =>
        have : isW tp n p m 2 111 102 0 0 = false := by
          have := a3.mp g3
          cases g4 : isW tp n p m 2 111 102 0 0 with
          | false => rfl
          | true => have := a4.mp g4; omega
        simp [mKd, this]
      | false =>
        cases isW tp n p m 2 111 102 0 0 with
        | true => simp [mKd]
        | false => simp [mKd]
