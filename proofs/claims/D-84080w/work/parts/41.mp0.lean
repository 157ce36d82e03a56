/-! a tree in LazyFormsModel's rows: Y 0 kind, 1 one, 2 two, 3 three, 4 next, 5 place, 6 free, 7 cost -/
def mNk (k : Nat) : Int := if k = 0 then 2 else if k = 1 then 0 else if k = 2 then 1 else if k = 3 then 7 else if k = 4 then 3 else if k = 5 then 4 else if k = 6 then 8 else if k = 7 then 5 else if k = 8 then 9 else if k = 10 then 6 else 10
def rM (kd : Nat → Nat) (tv pl : Nat → Int) (Y : Nat → Nat → Int) : Nat → Nat → Fm → Int → Prop
  | _, _, .nil, n => n = -1
  | lo, hi, .append h t, n => ∃ m : Nat, n = (m : Int) ∧ lo ≤ m ∧ m < hi ∧ rM kd tv pl Y lo hi h m ∧ rM kd tv pl Y lo hi t (Y 4 m)
  | lo, hi, .tag k (.tag i (.append a b)), n => ∃ m : Nat, n = (m : Int) ∧ lo ≤ m ∧ m < hi ∧ Y 0 m = mNk k ∧ Y 5 m = pl i ∧
      ((k = 0 ∨ k = 1) → Y 1 m = tv i) ∧
      (k = 2 → Y 1 m = tv i ∧ rM kd tv pl Y lo hi a (Y 2 m)) ∧
      ((k = 3 ∨ k = 4 ∨ k = 5 ∨ k = 7 ∨ k = 10) → rM kd tv pl Y lo hi a (Y 1 m) ∧ rM kd tv pl Y lo hi b (Y 2 m)) ∧
      (k = 10 → Y 3 m = tv i) ∧
      (k = 6 → Y 1 m = tv i ∧ rM kd tv pl Y (m + 1) hi a (Y 2 m) ∧ rM kd tv pl Y (m + 1) hi b (Y 3 m)) ∧
      (k = 8 → Y 7 m = (if kd i = 3 then 1 else if kd i = 2 ∨ kd i = 24 then 3 else 2) ∧ (kd i = 3 → Y 1 m = tv i) ∧ (kd i = 4 → Y 1 m = tv i) ∧ (kd i = 18 → Y 1 m = -tv (i + 1)) ∧ rM kd tv pl Y (m + 1) hi a (Y 2 m) ∧ rM kd tv pl Y (m + 1) hi b (Y 3 m)) ∧
      (k = 9 → Y 1 m = if kd i = 24 then -1 else tv i) ∧
      (k = 11 → rM kd tv pl Y lo m a (Y 1 m))
  | _, _, _, _ => False
theorem rM_up {kd : Nat → Nat} {tv pl : Nat → Int} {X Y : Nat → Nat → Int} : ∀ (t : Fm) (lo hi lo' hi' : Nat) (n : Int), lo' ≤ lo → hi ≤ hi' → (∀ f k, lo ≤ k → k < hi → Y f k = X f k) → rM kd tv pl X lo hi t n → rM kd tv pl Y lo' hi' t n
  | .nil, lo, hi, lo', hi', n, h1, h2, hy, h => h
  | .append a b, lo, hi, lo', hi', n, h1, h2, hy, h => by
    obtain ⟨m, e, q1, q2, q3, q4⟩ := h
    refine ⟨m, e, by omega, by omega, rM_up a lo hi lo' hi' _ h1 h2 hy q3, ?_⟩
    rw [hy 4 m q1 q2]
    exact rM_up b lo hi lo' hi' _ h1 h2 hy q4
  | .tag k (.tag i (.append a b)), lo, hi, lo', hi', n, h1, h2, hy, h => by
    have hlow : ∀ m f k, lo ≤ m → m < hi → lo ≤ k → k < m → Y f k = X f k := fun m f k a b c d => hy f k c (by omega)
    have hup : ∀ m f k, lo ≤ m → m < hi → m + 1 ≤ k → k < hi → Y f k = X f k := fun m f k a b c d => hy f k (by omega) d
    have hh : ∀ x : Nat, x < hi → x < hi' := fun x a => by omega
    have hlo : ∀ x : Nat, lo ≤ x → lo' ≤ x := fun x a => by omega
    obtain ⟨m, e, q1, q2, c0, c1, k0, k2, k3, k10, k6, k8, k9, k11⟩ := h
    have ya : ∀ n, rM kd tv pl X lo hi a n → rM kd tv pl Y lo' hi' a n := fun n z => rM_up a lo hi lo' hi' n h1 h2 hy z
    have yb : ∀ n, rM kd tv pl X lo hi b n → rM kd tv pl Y lo' hi' b n := fun n z => rM_up b lo hi lo' hi' n h1 h2 hy z
    have za : ∀ n, rM kd tv pl X lo m a n → rM kd tv pl Y lo' m a n := fun n z => rM_up a lo m lo' m n h1 (Nat.le_refl _) (fun f k a b => hlow m f k q1 q2 a b) z
    have ua : ∀ n, rM kd tv pl X (m + 1) hi a n → rM kd tv pl Y (m + 1) hi' a n := fun n z => rM_up a (m + 1) hi (m + 1) hi' n (Nat.le_refl _) h2 (fun f k a b => hup m f k q1 q2 a b) z
    have ub : ∀ n, rM kd tv pl X (m + 1) hi b n → rM kd tv pl Y (m + 1) hi' b n := fun n z => rM_up b (m + 1) hi (m + 1) hi' n (Nat.le_refl _) h2 (fun f k a b => hup m f k q1 q2 a b) z
    have hm : ∀ f, Y f m = X f m := fun f => hy f m q1 q2
    refine ⟨m, e, hlo _ q1, hh _ q2, ?_⟩
    simp only [hm]
    refine ⟨c0, c1, k0, fun z => ⟨(k2 z).1, ya _ (k2 z).2⟩, fun z => ⟨ya _ (k3 z).1, yb _ (k3 z).2⟩, k10, fun z => ⟨(k6 z).1, ua _ (k6 z).2.1, ub _ (k6 z).2.2⟩, fun z => ?_, k9, fun z => za _ (k11 z)⟩
    obtain ⟨r1, r2, r3, r4, r5, r6⟩ := k8 z
    exact ⟨r1, r2, r3, r4, ua _ r5, ub _ r6⟩
  | .line, _, _, _, _, _, _, _, _, h => h.elim
  | .align _, _, _, _, _, _, _, _, _, h => h.elim
  | .text _, _, _, _, _, _, _, _, _, h => h.elim
  | .nest _ _, _, _, _, _, _, _, _, _, h => h.elim
  | .group _ _, _, _, _, _, _, _, _, _, h => h.elim
  | .tag _ .nil, _, _, _, _, _, _, _, _, h => h.elim
  | .tag _ .line, _, _, _, _, _, _, _, _, h => h.elim
  | .tag _ (.align _), _, _, _, _, _, _, _, _, h => h.elim
  | .tag _ (.text _), _, _, _, _, _, _, _, _, h => h.elim
  | .tag _ (.nest _ _), _, _, _, _, _, _, _, _, h => h.elim
  | .tag _ (.append _ _), _, _, _, _, _, _, _, _, h => h.elim
  | .tag _ (.group _ _), _, _, _, _, _, _, _, _, h => h.elim
  | .tag _ (.tag _ .nil), _, _, _, _, _, _, _, _, h => h.elim
  | .tag _ (.tag _ .line), _, _, _, _, _, _, _, _, h => h.elim
  | .tag _ (.tag _ (.align _)), _, _, _, _, _, _, _, _, h => h.elim
  | .tag _ (.tag _ (.text _)), _, _, _, _, _, _, _, _, h => h.elim
  | .tag _ (.tag _ (.nest _ _)), _, _, _, _, _, _, _, _, h => h.elim
  | .tag _ (.tag _ (.group _ _)), _, _, _, _, _, _, _, _, h => h.elim
  | .tag _ (.tag _ (.tag _ _)), _, _, _, _, _, _, _, _, h => h.elim
theorem rM_el {kd : Nat → Nat} {tv pl : Nat → Int} {X Y : Nat → Nat → Int} {lo hi lo' hi' : Nat} {k i l : Nat} {a b : Fm} (hk : k = 6 ∨ k = 8 ∨ k = 9 ∨ k = 11) (h1 : lo' ≤ lo) (h2 : hi ≤ hi') (hy : ∀ f k, lo ≤ k → k < hi → ¬ (f = 4 ∧ k = l) → Y f k = X f k) (h : rM kd tv pl X lo hi (nd k i a b) (l : Int)) : rM kd tv pl Y lo' hi' (nd k i a b) (l : Int) := by
  have n0 : ¬ (k = 0 ∨ k = 1) := by omega
  have n2 : ¬ k = 2 := by omega
  have n3 : ¬ (k = 3 ∨ k = 4 ∨ k = 5 ∨ k = 7 ∨ k = 10) := by omega
  have n10 : ¬ k = 10 := by omega
  have hl : ∀ f k, l < hi → lo ≤ k → k < l → Y f k = X f k := fun f k q2 a b => hy f k a (by omega) (by omega)
  have hs : ∀ f k, lo ≤ l → l + 1 ≤ k → k < hi → Y f k = X f k := fun f k q a b => hy f k (by omega) b (by omega)
  have hh : ∀ x : Nat, x < hi → x < hi' := fun x a => by omega
  have hlo : ∀ x : Nat, lo ≤ x → lo' ≤ x := fun x a => by omega
  obtain ⟨m, e, q1, q2, c0, c1, k0, k2, k3, k10, k6, k8, k9, k11⟩ := h
  cases Int.ofNat.inj e
  have za : ∀ n, rM kd tv pl X lo l a n → rM kd tv pl Y lo' l a n := fun n z => rM_up a lo l lo' l n h1 (Nat.le_refl _) (fun f k a b => hl f k q2 a b) z
  have ua : ∀ n, rM kd tv pl X (l + 1) hi a n → rM kd tv pl Y (l + 1) hi' a n := fun n z => rM_up a (l + 1) hi (l + 1) hi' n (Nat.le_refl _) h2 (fun f k a b => hs f k q1 a b) z
  have ub : ∀ n, rM kd tv pl X (l + 1) hi b n → rM kd tv pl Y (l + 1) hi' b n := fun n z => rM_up b (l + 1) hi (l + 1) hi' n (Nat.le_refl _) h2 (fun f k a b => hs f k q1 a b) z
  have hm : ∀ f, f ≠ 4 → Y f l = X f l := fun f hf => hy f l q1 q2 (fun z => hf z.1)
  refine ⟨l, rfl, hlo _ q1, hh _ q2, ?_⟩
  simp only [hm 0 (by decide), hm 1 (by decide), hm 2 (by decide), hm 3 (by decide), hm 5 (by decide), hm 7 (by decide)]
  refine ⟨c0, c1, fun z => absurd z n0, fun z => absurd z n2, fun z => absurd z n3, fun z => absurd z n10, fun z => ⟨(k6 z).1, ua _ (k6 z).2.1, ub _ (k6 z).2.2⟩, fun z => ?_, k9, fun z => za _ (k11 z)⟩
  obtain ⟨r1, r2, r3, r4, r5, r6⟩ := k8 z
  exact ⟨r1, r2, r3, r4, ua _ r5, ub _ r6⟩
/-- the rows -/
def yr (σ : Mem) (f k : Nat) : Int := if f < 8 then σ (97 + f) k else 0
def wQ (o k : Nat) : Bool := (o == 90 && (k == 6 || k == 22 || k == 10 || k == 19 || k == 20)) || (decide (97 ≤ o) && decide (o ≤ 104))
theorem wQ_lay : layL.all (fun p => !wQ p.1 p.2.1) = true := by decide
def tvT (tp : Nat → Int) (n A i : Nat) : Int := mTv tp n A (plc tp n i)
def ppT (tp : Nat → Int) (n A i : Nat) : Int := ((2000 * A + plc tp n i : Nat) : Int)
/-- what stays while LazyFormsModel reads -/
def MS (tp : Nat → Int) (n e A : Nat) (σ : Mem) : Prop := MT tp n A σ ∧ (∀ k, k ≤ e → σ 94 k = (mKd (kdT tp n k) : Int) ∧ σ 96 k = ppT tp n A k ∧ (2 ≤ kdT tp n k → σ 95 k = tvT tp n A k)) ∧ e ≤ 2000 ∧ kdT tp n e ≤ 1 ∧ ∀ k, k < e → 2 ≤ kdT tp n k
theorem MS.fr {tp : Nat → Int} {n e A : Nat} {σ τ : Mem} (h : MS tp n e A σ) (f : Fr wQ σ τ) : MS tp n e A τ := by
  obtain ⟨a, b, c, d, g⟩ := h
  refine ⟨a.fr f wQ_lay (by decide) (by intro k; simp [wQ]) (by intro k; simp [wQ]), fun k hk => ?_, c, d, g⟩
  rw [f 94 k (by simp [wQ]), f 95 k (by simp [wQ]), f 96 k (by simp [wQ])]
  exact b k hk
def MP (tp : Nat → Int) (n e A i o N : Nat) (σ : Mem) : Prop := MS tp n e A σ ∧ σ 90 6 = (i : Int) ∧ σ 90 22 = (o : Int) ∧ σ 90 10 = (N : Int) ∧ i ≤ e
def MErr (tp : Nat → Int) (n f j : Nat) (σ τ : Mem) : Prop := Fr wQ σ τ ∧ τ 90 19 = (f : Int) ∧ τ 90 20 = plT tp n j
/-- the rows outside the new nodes are as they were -/
def YFr (A N : Nat) (σ τ : Mem) : Prop := Fr wQ σ τ ∧ ∀ f k, (k < 4000 * A + N ∨ 4000 * A + 4000 ≤ k) → yr τ f k = yr σ f k
theorem YFr.rf {A N : Nat} {σ : Mem} : YFr A N σ σ := ⟨Fr.rf, fun _ _ _ => rfl⟩
theorem YFr.tr {A N M : Nat} {σ τ υ : Mem} (h : YFr A N σ τ) (g : YFr A M τ υ) (hl : N ≤ M) : YFr A N σ υ := ⟨h.1.tr g.1, fun f k hk => (g.2 f k (by omega)).trans (h.2 f k hk)⟩
theorem kdT_le (tp : Nat → Int) (n i : Nat) : kdT tp n i ≤ 24 := by
  unfold kdT tok
  split
  · decide
  · split
    · dsimp only
      split
      · decide
      · split
        · decide
        · unfold kwd
          repeat' split
          all_goals decide
    · split
      · dsimp only
        split <;> decide
      · exact (show ∀ x ∈ sgnL, x.1 ≤ 24 by decide) _ (sgn_mem _ _)
def isSg (k : Nat) (v : Int) : Bool := decide (9 ≤ k) && decide (mVl k = v)
theorem slitL : ∀ k : Fin 25, isSg k 40 = decide (k.val = 9) ∧ isSg k 41 = decide (k.val = 10) ∧ isSg k 123 = decide (k.val = 11) ∧ isSg k 125 = decide (k.val = 12) ∧ isSg k 59 = decide (k.val = 13) ∧ isSg k 61 = decide (k.val = 14) ∧ isSg k 256 = decide (k.val = 15) ∧ isSg k 92 = decide (k.val = 16) ∧ isSg k 43 = decide (k.val = 17) ∧ isSg k 45 = decide (k.val = 18) ∧ isSg k 42 = decide (k.val = 19) ∧ isSg k 47 = decide (k.val = 20) ∧ isSg k 60 = decide (k.val = 21) ∧ isSg k 257 = decide (k.val = 22) ∧ isSg k 258 = decide (k.val = 23) ∧ isSg k 95 = decide (k.val = 24) := by decide
theorem slit (tp : Nat → Int) (n i : Nat) : (isSg (kdT tp n i) 40 = decide (kdT tp n i = 9)) ∧ (isSg (kdT tp n i) 41 = decide (kdT tp n i = 10)) ∧ (isSg (kdT tp n i) 123 = decide (kdT tp n i = 11)) ∧ (isSg (kdT tp n i) 125 = decide (kdT tp n i = 12)) ∧ (isSg (kdT tp n i) 59 = decide (kdT tp n i = 13)) ∧ (isSg (kdT tp n i) 61 = decide (kdT tp n i = 14)) ∧ (isSg (kdT tp n i) 256 = decide (kdT tp n i = 15)) ∧ (isSg (kdT tp n i) 92 = decide (kdT tp n i = 16)) ∧ (isSg (kdT tp n i) 43 = decide (kdT tp n i = 17)) ∧ (isSg (kdT tp n i) 45 = decide (kdT tp n i = 18)) ∧ (isSg (kdT tp n i) 42 = decide (kdT tp n i = 19)) ∧ (isSg (kdT tp n i) 47 = decide (kdT tp n i = 20)) ∧ (isSg (kdT tp n i) 60 = decide (kdT tp n i = 21)) ∧ (isSg (kdT tp n i) 257 = decide (kdT tp n i = 22)) ∧ (isSg (kdT tp n i) 258 = decide (kdT tp n i = 23)) ∧ (isSg (kdT tp n i) 95 = decide (kdT tp n i = 24)) := slitL ⟨kdT tp n i, Nat.lt_succ_of_le (kdT_le tp n i)⟩
theorem klitL : ∀ k : Fin 25, (((mKd k.val : Nat) : Int) = 0 ↔ k.val = 0) ∧ (((mKd k.val : Nat) : Int) = 1 ↔ k.val = 1) ∧ (((mKd k.val : Nat) : Int) = 2 ↔ k.val = 2) ∧ (((mKd k.val : Nat) : Int) = 3 ↔ k.val = 3) ∧ (((mKd k.val : Nat) : Int) = 4 ↔ k.val = 4) ∧ (((mKd k.val : Nat) : Int) = 6 ↔ k.val = 5) ∧ (((mKd k.val : Nat) : Int) = 7 ↔ k.val = 6) ∧ (((mKd k.val : Nat) : Int) = 8 ↔ k.val = 7) ∧ (((mKd k.val : Nat) : Int) = 9 ↔ k.val = 8) := by decide
theorem klit (tp : Nat → Int) (n i : Nat) : (((mKd (kdT tp n i) : Nat) : Int) = 0) = (kdT tp n i = 0) ∧ (((mKd (kdT tp n i) : Nat) : Int) = 1) = (kdT tp n i = 1) ∧ (((mKd (kdT tp n i) : Nat) : Int) = 2) = (kdT tp n i = 2) ∧ (((mKd (kdT tp n i) : Nat) : Int) = 3) = (kdT tp n i = 3) ∧ (((mKd (kdT tp n i) : Nat) : Int) = 4) = (kdT tp n i = 4) ∧ (((mKd (kdT tp n i) : Nat) : Int) = 6) = (kdT tp n i = 5) ∧ (((mKd (kdT tp n i) : Nat) : Int) = 7) = (kdT tp n i = 6) ∧ (((mKd (kdT tp n i) : Nat) : Int) = 8) = (kdT tp n i = 7) ∧ (((mKd (kdT tp n i) : Nat) : Int) = 9) = (kdT tp n i = 8) := by
  have q := klitL ⟨kdT tp n i, Nat.lt_succ_of_le (kdT_le tp n i)⟩
  exact ⟨propext q.1, propext q.2.1, propext q.2.2.1, propext q.2.2.2.1, propext q.2.2.2.2.1, propext q.2.2.2.2.2.1, propext q.2.2.2.2.2.2.1, propext q.2.2.2.2.2.2.2.1, propext q.2.2.2.2.2.2.2.2⟩
