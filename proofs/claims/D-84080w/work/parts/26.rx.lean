/-! trees in rows: they stay -/
theorem rX_up {kd : Nat → Nat} {pl vl mk : Nat → Int} {X Y : Nat → Nat → Int} : ∀ (t : Fm) (lo hi lo' hi' : Nat) (n : Int), lo' ≤ lo → hi ≤ hi' → (∀ f k, lo ≤ k → k < hi → Y f k = X f k) → rX kd pl vl mk X lo hi t n → rX kd pl vl mk Y lo' hi' t n
  | .nil, lo, hi, lo', hi', n, h1, h2, hy, h => h
  | .append a b, lo, hi, lo', hi', n, h1, h2, hy, h => by
    obtain ⟨m, e, q1, q2, q3, q4⟩ := h
    refine ⟨m, e, by omega, by omega, rX_up a lo hi lo' hi' _ h1 h2 hy q3, ?_⟩
    rw [hy 6 m q1 q2]
    exact rX_up b lo hi lo' hi' _ h1 h2 hy q4
  | .tag k (.tag i (.append a b)), lo, hi, lo', hi', n, h1, h2, hy, h => by
    obtain ⟨m, e, q1, q2, c0, c1, k0, k1, k2, k3, k4, k5, k6, k8, k9, k10, k11⟩ := h
    have ya : ∀ n, rX kd pl vl mk X lo hi a n → rX kd pl vl mk Y lo' hi' a n := fun n z => rX_up a lo hi lo' hi' n h1 h2 hy z
    have yb : ∀ n, rX kd pl vl mk X lo hi b n → rX kd pl vl mk Y lo' hi' b n := fun n z => rX_up b lo hi lo' hi' n h1 h2 hy z
    have za : ∀ n, rX kd pl vl mk X lo m a n → rX kd pl vl mk Y lo' m a n := fun n z => rX_up a lo m lo' m n h1 (Nat.le_refl _) (fun f k a b => hy f k a (by omega)) z
    have zb : ∀ n, rX kd pl vl mk X lo m b n → rX kd pl vl mk Y lo' m b n := fun n z => rX_up b lo m lo' m n h1 (Nat.le_refl _) (fun f k a b => hy f k a (by omega)) z
    have hm : ∀ f, Y f m = X f m := fun f => hy f m q1 q2
    refine ⟨m, e, by omega, by omega, ?_⟩
    simp only [hm]
    refine ⟨c0, c1, k0, k1, fun z => ?_, fun z => ?_, fun z => ?_, fun z => ?_, fun z => ?_, fun z => ?_, k9, k10, fun z => za _ (k11 z)⟩
    · exact ⟨(k2 z).1, ya _ (k2 z).2.1, (k2 z).2.2⟩
    · exact ⟨ya _ (k3 z).1, yb _ (k3 z).2.1, (k3 z).2.2⟩
    · exact ⟨(k4 z).1, ya _ (k4 z).2.1, yb _ (k4 z).2.2⟩
    · exact ⟨ya _ (k5 z).1, yb _ (k5 z).2⟩
    · obtain ⟨r1, r2, r3⟩ := k6 z
      refine ⟨r1, fun y => zb _ (r2 y), fun y => ?_⟩
      obtain ⟨u1, u2, u3, u4, u5, u6, u7⟩ := r3 y
      have hm2 : ∀ f, Y f (m + 1) = X f (m + 1) := fun f => hy f (m + 1) (by omega) u2
      simp only [hm2]
      exact ⟨u1, by omega, u3, u4, u5, za _ u6, zb _ u7⟩
    · obtain ⟨r1, r2, r3, r4, r5, r6⟩ := k8 z
      exact ⟨r1, r2, r3, r4, fun y => za _ (r5 y), zb _ r6⟩
  | .line, _, _, _, _, _, _, _, _, h => h.elim
  | .align _, _, _, _, _, _, _, _, _, h => h.elim
  | .text _, _, _, _, _, _, _, _, _, h => h.elim
  | .nest _ _, _, _, _, _, _, _, _, _, h => h.elim
  | .group _ _, _, _, _, _, _, _, _, _, h => h.elim
  | .tag _ .nil, _, _, _, _, _, _, _, _, h => h.elim
  | .tag _ .line, _, _, _, _, _, _, _, _, h => h.elim
  | .tag _ (.align _), _, _, _, _, _, _, _, _, h => h.elim
  | .tag _ (.text _), _, _, _, _, _, _, _, _, h => h.elim
  | .tag _ (.nest _ _), _, _, _, _, _, _, _, _, h => h.elim
  | .tag _ (.append _ _), _, _, _, _, _, _, _, _, h => h.elim
  | .tag _ (.group _ _), _, _, _, _, _, _, _, _, h => h.elim
  | .tag _ (.tag _ .nil), _, _, _, _, _, _, _, _, h => h.elim
  | .tag _ (.tag _ .line), _, _, _, _, _, _, _, _, h => h.elim
  | .tag _ (.tag _ (.align _)), _, _, _, _, _, _, _, _, h => h.elim
  | .tag _ (.tag _ (.text _)), _, _, _, _, _, _, _, _, h => h.elim
  | .tag _ (.tag _ (.nest _ _)), _, _, _, _, _, _, _, _, h => h.elim
  | .tag _ (.tag _ (.group _ _)), _, _, _, _, _, _, _, _, h => h.elim
  | .tag _ (.tag _ (.tag _ _)), _, _, _, _, _, _, _, _, h => h.elim
