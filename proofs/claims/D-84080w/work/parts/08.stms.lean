/-! statements. In-state (pc, falls, labels): come to by falling to pc, or by jumps to the labels. -/
abbrev zV : Type := List zTV → Mem → Prop
abbrev zIo : Type := Nat × Bool × List Nat
abbrev zSt : Type := (zCx → zIo → Option (zIo × List Nat × List Nat)) × (zCS → List zTV → Mem → zV → zV → zV → zK → zK → Prop)
def zAtO (C : zCS) (cx : zCx) (R T : zK) (i : zIo) (e1 : List zTV) (σ : Mem) : Prop := (i.2.1 = true → zRun C cx R T i.1 e1 [] σ) ∧ ∀ t ∈ i.2.2, zRun C cx R T t e1 [] σ
def zKp (cx : zCx) (e1 e0 : List zTV) : Prop := cx.2.2.2.2 = [] ∨ (e1[0]? = e0[0]? ∧ e1.length = e0.length)
theorem zKp.rf {cx : zCx} {e : List zTV} : zKp cx e e := Or.inr ⟨rfl, rfl⟩
theorem zKp.tr {cx : zCx} {a b c : List zTV} (h : zKp cx a b) (k : zKp cx b c) : zKp cx a c := by
  rcases h with h | h
  · exact Or.inl h
  · rcases k with k | k
    · exact Or.inl k
    · exact Or.inr ⟨h.1.trans k.1, h.2.trans k.2⟩
def zSm (w : zCS → List zTV → Mem → zV → zV → zV → zK → zK → Prop) : Prop := ∀ (C C' : zCS) (env : List zTV) (σ : Mem) (N N' B B' O O' : zV) (R R' T T' : zK), zLe C C' → (∀ e σ, N e σ → N' e σ) → (∀ e σ, B e σ → B' e σ) → (∀ e σ, O e σ → O' e σ) → (∀ v σ, R v σ → R' v σ) → (∀ v σ, T v σ → T' v σ) → w C env σ N B O R T → w C' env σ N' B' O' R' T'
def zSs (s : zSt) : Prop := ∀ cx i o, s.1 cx i = some o → i.1 ≤ o.1.1 ∧ ∀ C, zMono C → ∀ (env env1 : List zTV) (σ : Mem) (N B O : zV) (R Ts T : zK), zSub env env1 → s.2 C env σ N B O R Ts →
  (∀ e e1 σ', zSub e e1 → zKp cx e1 env1 → N e σ' → zAtO C cx R T o.1 e1 σ') →
  (∀ e e1 σ', zSub e e1 → zKp cx e1 env1 → B e σ' → ∀ t ∈ o.2.1, zRun C cx R T t e1 [] σ') →
  (∀ e e1 σ', zSub e e1 → zKp cx e1 env1 → O e σ' → ∀ t ∈ o.2.2, zRun C cx R T t e1 [] σ') →
  (∀ q e1 v σ', i.1 ≤ q → q < o.1.1 → zKp cx e1 env1 → Ts v σ' → zThr cx T (zRun C cx R T) q e1 v σ') → zAtO C cx R T i env1 σ
def zS : Type := { s : zSt // zSm s.2 ∧ zSs s }
/-- a statement that begins with code of its own -/
def zS0 (fl : Bool) (chk : zCx → Nat → Option Nat) (cx : zCx) (i : zIo) : Option (zIo × List Nat × List Nat) := if zAll cx i.1 i.2.2 = true then (chk cx i.1).map (fun p => ((p, fl, []), [], [])) else none
theorem zS0_spec {fl : Bool} {chk : zCx → Nat → Option Nat} {cx : zCx} {i : zIo} {o : zIo × List Nat × List Nat} (h : zS0 fl chk cx i = some o) : ∃ p, chk cx i.1 = some p ∧ o = ((p, fl, []), [], []) ∧ ∀ C, zMono C → ∀ (R T : zK) (e : List zTV) (σ : Mem), zRun C cx R T i.1 e [] σ → zAtO C cx R T i e σ := by
  unfold zS0 at h
  split at h
  · next ha =>
    obtain ⟨p, h1, h2⟩ := Option.map_eq_some_iff.mp h
    exact ⟨p, h1, h2.symm, fun C hC R T e σ k => ⟨fun _ => k, zAll_spec hC ha k⟩⟩
  · cases h
-- ## locals
theorem sto_len : ∀ (k : Nat) (v : zTV) (l : List zTV), (sto k v l).length = l.length
  | _, _, [] => by simp [sto]
  | 0, v, _ :: t => by simp [sto]
  | 1, v, x :: t => by simp [sto, sto_len 0 v t]
  | n + 2, v, x :: t => by simp [sto, sto_len (n + 1) v t]
theorem sto_get : ∀ (k : Nat) (v : zTV) (l : List zTV) (i : Nat), (sto k v l)[i]? = if i = k then (l[i]?).map (fun _ => v) else if i + 1 = k then (l[i]?).map (fun x => if x.1 = 2 then (0, 0) else x) else l[i]?
  | _, _, [], i => by simp [sto]
  | 0, v, x :: t, i => by
    cases i with
    | zero => simp [sto]
    | succ i => simp [sto]
  | 1, v, x :: t, i => by
    cases i with
    | zero => simp [sto]
    | succ i =>
      have z := sto_get 0 v t i
      simp only [sto, List.getElem?_cons_succ, z]
      by_cases hi : i = 0 <;> simp [hi]
  | n + 2, v, x :: t, i => by
    cases i with
    | zero => simp [sto]
    | succ i =>
      have z := sto_get (n + 1) v t i
      simp only [sto, List.getElem?_cons_succ, z]
      by_cases h1 : i = n + 1 <;> by_cases h2 : i + 1 = n + 1 <;> simp [h1, h2]
theorem zSub_sto {env env1 : List zTV} (h : zSub env env1) (k : Nat) (v : zTV) : zSub (sto k v env) (sto k v env1) := by
  refine ⟨by rw [sto_len, sto_len]; exact h.1, fun i t x hi ht => ?_⟩
  rw [sto_get] at hi ⊢
  by_cases h1 : i = k
  · rw [if_pos h1] at hi ⊢
    obtain ⟨y, hy, e⟩ := Option.map_eq_some_iff.mp hi
    have hl : i < env1.length := by rw [← h.1]; exact (List.getElem?_eq_some_iff.mp hy).1
    rw [List.getElem?_eq_getElem hl, Option.map_some, e]
  · rw [if_neg h1] at hi ⊢
    by_cases h2 : i + 1 = k
    · rw [if_pos h2] at hi ⊢
      obtain ⟨y, hy, e⟩ := Option.map_eq_some_iff.mp hi
      by_cases h3 : y.1 = 2
      · rw [if_pos h3] at e
        cases e
        exact absurd rfl ht
      · rw [if_neg h3] at e
        subst e
        rw [h.2 i t x hy ht, Option.map_some, if_neg h3]
    · rw [if_neg h2] at hi ⊢
      exact h.2 i t x hi ht
theorem sto_0 {k : Nat} (hk : 2 ≤ k) (v : zTV) (l : List zTV) : (sto k v l)[0]? = l[0]? := by
  rw [sto_get, if_neg (by omega), if_neg (by omega)]
def zSto (t k : Nat) (v : Int) (env : List zTV) : List zTV := if t = 2 then stoL k v env else sto k (t, v) env
theorem zSub_Sto {env env1 : List zTV} (h : zSub env env1) (t k : Nat) (v : Int) : zSub (zSto t k v env) (zSto t k v env1) := by
  unfold zSto
  split
  · exact zSub_sto (zSub_sto h _ _) _ _
  · exact zSub_sto h _ _
theorem zSto_0 {t k : Nat} (hk : 2 ≤ k) (v : Int) (l : List zTV) : (zSto t k v l)[0]? = l[0]? := by
  unfold zSto
  split
  · unfold stoL; rw [sto_0 hk, sto_0 (by omega)]
  · exact sto_0 hk _ _
theorem zSto_len {t k : Nat} (v : Int) (l : List zTV) : (zSto t k v l).length = l.length := by
  unfold zSto
  split
  · unfold stoL; rw [sto_len, sto_len]
  · exact sto_len _ _ _
def zIsSt (t k : Nat) (i : Instr) : Bool := match i with
  | .istore j => decide (t = 1 ∧ j = k) | .istore_n j => decide (t = 1 ∧ (j : Nat) = k)
  | .lstore j => decide (t = 2 ∧ j = k) | .lstore_n j => decide (t = 2 ∧ (j : Nat) = k)
  | .astore j => decide (t = 3 ∧ j = k) | .astore_n j => decide (t = 3 ∧ (j : Nat) = k)
  | _ => false
theorem zIsSt_spec {C : zCS} {cx : zCx} {R T : zK} {go : zGo} {pc len : Nat} {env st : List zTV} {σ : Mem} {t k : Nat} {v : Int} {i : Instr} (h : zIsSt t k i = true) (hl : k + (if t = 2 then 1 else 0) < env.length) (kk : go (pc + len) (zSto t k v env) st σ) : zIns C cx R T go pc len env ((t, v) :: st) σ i := by
  unfold zIsSt at h
  split at h <;> first
    | (obtain ⟨rfl, rfl⟩ := of_decide_eq_true h; exact ⟨rfl, hl, kk⟩)
    | cases h
def zOkS (cx : zCx) (k : Nat) : Bool := decide (2 ≤ k) || cx.2.2.2.2.isEmpty
theorem zOkS_spec {cx : zCx} {t k : Nat} (h : zOkS cx k = true) (v : Int) (e : List zTV) : zKp cx (zSto t k v e) e := by
  unfold zOkS at h
  rcases Bool.or_eq_true _ _ |>.mp h with h | h
  · exact Or.inr ⟨zSto_0 (of_decide_eq_true h) v e, zSto_len v e⟩
  · exact Or.inl (by simpa using h)
def sSt (t k : Nat) (e : zE) : zS := ⟨(zS0 true (fun cx pc => if e.1.2.1 = t ∧ zOkS cx k = true then (e.1.1 cx 0 pc).bind (fun q => zI1 cx q (zIsSt t k)) else none), fun C env σ N _ _ _ T => e.1.2.2 C env σ (fun v σ' => k + (if t = 2 then 1 else 0) < env.length ∧ N (zSto t k v env) σ') T),
  fun _ _ _ _ _ _ _ _ _ _ _ _ _ _ hC hN _ _ _ hT h => e.2.1 _ _ _ _ _ _ _ _ hC (fun _ _ q => ⟨q.1, hN _ _ q.2⟩) hT h, by
  intro cx i o h
  dsimp only at h
  obtain ⟨p, h1, rfl, ex⟩ := zS0_spec h
  split at h1
  · next ht =>
    obtain ⟨q, h2, h3⟩ := Option.bind_eq_some_iff.mp h1
    obtain ⟨i', len, hi, hf, rfl⟩ := zI1_spec h3
    obtain ⟨l1, s1⟩ := e.2.2 cx 0 i.1 q h2
    refine ⟨Nat.le_trans l1 (Nat.le_add_right _ _), fun C hC env env1 σ N B O R Ts T hs hw hN _ _ kt => ex C hC R T env1 σ (s1 C hC env env1 [] σ _ Ts R T rfl hs hw (fun v σ' hv => zRun_step hC hi ?_) (fun q' o' σ' a1 a2 a3 => kt q' env1 o' σ' a1 (Nat.lt_of_lt_of_le a2 (Nat.le_add_right _ _)) zKp.rf a3))⟩
    rw [ht.1]
    refine zIsSt_spec hf (by rw [← hs.1]; exact hv.1) ?_
    exact (hN _ _ σ' (zSub_Sto hs t k v) (zOkS_spec ht.2 v env1) hv.2).1 rfl
  · cases h1⟩
def sInc (k : Nat) (n : Int) : zS := ⟨(zS0 true (fun cx pc => if zOkS cx k = true then zI1 cx pc (fun i => decide (i = .iinc k n)) else none), fun _ env σ N _ _ _ _ => zHas 1 k env ∧ N (zSto 1 k (w32 (zGet k env + n)) env) σ),
  fun _ _ _ _ _ _ _ _ _ _ _ _ _ _ hC hN _ _ _ hT h => ⟨h.1, hN _ _ h.2⟩, by
  intro cx i o h
  dsimp only at h
  obtain ⟨p, h1, rfl, ex⟩ := zS0_spec h
  split at h1
  · next ht =>
    obtain ⟨i', len, hi, hf, rfl⟩ := zI1_spec h1
    refine ⟨Nat.le_add_right _ _, fun C hC env env1 σ N B O R Ts T hs hw hN _ _ kt => ex C hC R T env1 σ (zRun_step hC hi ?_)⟩
    cases of_decide_eq_true hf
    obtain ⟨⟨x, hx⟩, hw⟩ := hw
    have e : zGet k env = x := by simp [zGet, List.getD, hx]
    rw [e] at hw
    have hl : k < env1.length := by rw [← hs.1]; exact (List.getElem?_eq_some_iff.mp hx).1
    refine zLd_sub hs (by decide) ?_
    unfold zLd
    rw [hx]
    refine ⟨rfl, hl, ?_⟩
    exact (hN _ _ σ (zSub_Sto hs 1 k _) (zOkS_spec ht _ env1) hw).1 rfl
  · cases h1⟩
-- ## fields and arrays
def zIsPf (cx : zCx) (ci f t : Nat) (i : Instr) : Bool := match i with
  | .putfield k => (match tField cx.1 k with
    | some (a, b, c, d) => decide (a = ci ∧ b = f ∧ c = t ∧ (d = 1 → cx.2.1 = true))
    | none => false)
  | _ => false
theorem zIsPf_spec {C : zCS} {cx : zCx} {R T : zK} {go : zGo} {pc len : Nat} {env st : List zTV} {σ : Mem} {ci f t : Nat} {o v : Int} {i : Instr} (h : zIsPf cx ci f t i = true) (h1 : 0 < o) (h2 : zSh σ o.toNat = (5, ci)) (h3 : t = 4 → zB v) (k : go (pc + len) env st (mset σ o.toNat f v)) : zIns C cx R T go pc len env ((zTag t, v) :: (3, o) :: st) σ i := by
  unfold zIsPf at h
  split at h
  · split at h
    · next a b c d hf =>
      obtain ⟨rfl, rfl, rfl, hd⟩ := of_decide_eq_true h
      exact ⟨_, _, _, _, hf, hd, rfl, rfl, h1, h2, h3, k⟩
    · cases h
  · cases h
def sPf (a : zE) (ci f t : Nat) (e : zE) : zS := ⟨(zS0 true (fun cx pc => if a.1.2.1 = 3 ∧ e.1.2.1 = zTag t then (a.1.1 cx 0 pc).bind (fun q => (e.1.1 cx 1 q).bind (fun r => zI1 cx r (zIsPf cx ci f t))) else none),
    fun C env σ N _ _ _ T => a.1.2.2 C env σ (fun o σ1 => e.1.2.2 C env σ1 (fun v σ2 => 0 < o ∧ zSh σ2 o.toNat = (5, ci) ∧ (t = 4 → zB v) ∧ N env (mset σ2 o.toNat f v)) T) T),
  fun _ _ _ _ _ _ _ _ _ _ _ _ _ _ hC hN _ _ _ hT h => a.2.1 _ _ _ _ _ _ _ _ hC (fun _ _ q => e.2.1 _ _ _ _ _ _ _ _ hC (fun _ _ q => ⟨q.1, q.2.1, q.2.2.1, hN _ _ q.2.2.2⟩) hT q) hT h, by
  intro cx i o h
  dsimp only at h
  obtain ⟨p, h1, rfl, ex⟩ := zS0_spec h
  split at h1
  · next ht =>
    obtain ⟨q, h2, h3⟩ := Option.bind_eq_some_iff.mp h1
    obtain ⟨r, h4, h5⟩ := Option.bind_eq_some_iff.mp h3
    obtain ⟨i', len, hi, hf, rfl⟩ := zI1_spec h5
    obtain ⟨l1, s1⟩ := a.2.2 cx 0 i.1 q h2
    obtain ⟨l2, s2⟩ := e.2.2 cx 1 q r h4
    refine ⟨by dsimp only; omega, fun C hC env env1 σ N B O R Ts T hs hw hN _ _ kt => ?_⟩
    dsimp only at kt
    refine ex C hC R T env1 σ (s1 C hC env env1 [] σ _ Ts R T rfl hs hw (fun v σ1 hv => s2 C hC env env1 _ σ1 _ Ts R T rfl hs hv (fun v2 σ2 hv2 => zRun_step hC hi ?_) (fun q' o' σ' a1 a2 a3 => kt q' env1 o' σ' (by omega) (by omega) zKp.rf a3)) (fun q' o' σ' a1 a2 a3 => kt q' env1 o' σ' a1 (by omega) zKp.rf a3))
    rw [ht.1, ht.2]
    exact zIsPf_spec hf hv2.1 hv2.2.1 hv2.2.2.1 ((hN _ _ _ hs zKp.rf hv2.2.2.2).1 rfl)
  · cases h1⟩
def sPfo (a : zE) (ci f t : Nat) (o : zO2) (e : zE) : zS := ⟨(zS0 true (fun cx pc => if a.1.2.1 = 3 ∧ t ≠ 4 ∧ o.1.2.1.1 = zTag t ∧ e.1.2.1 = o.1.2.1.2 ∧ o.1.2.2.1 = zTag t then (a.1.1 cx 0 pc).bind (fun q => (zI1 cx q (fun i => decide (i = .dup))).bind (fun q1 => (zI1 cx q1 ((oGf ci f t).1.1 cx)).bind (fun q2 => (e.1.1 cx 2 q2).bind (fun q3 => (zI1 cx q3 (o.1.1 cx)).bind (fun q4 => zI1 cx q4 (zIsPf cx ci f t)))))) else none),
    fun C env σ N _ _ _ T => a.1.2.2 C env σ (fun x σ1 => 0 < x ∧ zSh σ1 x.toNat = (5, ci) ∧ e.1.2.2 C env σ1 (fun v σ2 => o.1.2.2.2.1 (σ1 x.toNat f) v σ2 ∧ zSh σ2 x.toNat = (5, ci) ∧ N env (mset σ2 x.toNat f (o.1.2.2.2.2 (σ1 x.toNat f) v σ2))) T) T),
  fun _ _ _ _ _ _ _ _ _ _ _ _ _ _ hC hN _ _ _ hT h => a.2.1 _ _ _ _ _ _ _ _ hC (fun _ _ q => ⟨q.1, q.2.1, e.2.1 _ _ _ _ _ _ _ _ hC (fun _ _ q => ⟨q.1, q.2.1, hN _ _ q.2.2⟩) hT q.2.2⟩) hT h, by
  intro cx i o' h
  dsimp only at h
  obtain ⟨p, h1, rfl, ex⟩ := zS0_spec h
  split at h1
  · next ht =>
    obtain ⟨t1, t2, t3, t4, t5⟩ := ht
    obtain ⟨q, h2, h1⟩ := Option.bind_eq_some_iff.mp h1
    obtain ⟨q1, h3, h1⟩ := Option.bind_eq_some_iff.mp h1
    obtain ⟨q2, h4, h1⟩ := Option.bind_eq_some_iff.mp h1
    obtain ⟨q3, h5, h1⟩ := Option.bind_eq_some_iff.mp h1
    obtain ⟨q4, h6, h7⟩ := Option.bind_eq_some_iff.mp h1
    obtain ⟨l1, s1⟩ := a.2.2 cx 0 i.1 q h2
    obtain ⟨i3, len3, hi3, hf3, rfl⟩ := zI1_spec h3
    obtain ⟨i4, len4, hi4, hf4, rfl⟩ := zI1_spec h4
    obtain ⟨l2, s2⟩ := e.2.2 cx 2 _ q3 h5
    obtain ⟨i6, len6, hi6, hf6, rfl⟩ := zI1_spec h6
    obtain ⟨i7, len7, hi7, hf7, rfl⟩ := zI1_spec h7
    refine ⟨by dsimp only; omega, fun C hC env env1 σ N B O R Ts T hs hw hN _ _ kt => ?_⟩
    dsimp only at kt
    refine ex C hC R T env1 σ (s1 C hC env env1 [] σ _ Ts R T rfl hs hw (fun x σ1 hx => zRun_step hC hi3 ?_) (fun q' o' σ' a1 a2 a3 => kt q' env1 o' σ' a1 (by omega) zKp.rf a3))
    cases of_decide_eq_true hf3
    rw [t1]
    refine ⟨Or.inr rfl, zRun_step hC hi4 ((oGf ci f t).2 cx i4 hf4 _ _ _ _ _ _ _ _ _ x ⟨hx.1, hx.2.1⟩ ?_)⟩
    refine s2 C hC env env1 _ σ1 _ Ts R T rfl hs hx.2.2 (fun v σ2 hv => zRun_step hC hi6 ?_) (fun q' o' σ' a1 a2 a3 => kt q' env1 o' σ' (by omega) (by omega) zKp.rf a3)
    rw [t4]
    refine (t3 ▸ o.2 cx i6 hf6 _ _ _ _ _ _ _ _ σ2 (σ1 x.toNat f) v hv.1 (zRun_step hC hi7 ?_) :)
    rw [t5]
    exact zIsPf_spec hf7 hx.1 hv.2.1 (fun e => absurd e t2) ((hN _ _ _ hs zKp.rf hv.2.2).1 rfl)
  · cases h1⟩
def zIsAs (ty : Nat) (i : Instr) : Bool := match i with
  | .iastore => decide (ty = 1) | .bastore => decide (ty = 2 ∨ ty = 3) | .lastore => decide (ty = 4) | _ => false
def zGd (ty : Nat) (v : Int) : Prop := (ty = 2 → zI8 v) ∧ (ty = 3 → zB v)
def zEt1 (ty : Nat) : Nat := if ty = 4 then 2 else 1
theorem zIsAs_spec {C : zCS} {cx : zCx} {R T : zK} {go : zGo} {pc len : Nat} {env st : List zTV} {σ : Mem} {ty : Nat} {a j v : Int} {i : Instr} (h : zIsAs ty i = true) (h1 : 4 < a) (h2 : (zSh σ a.toNat).1 = ty) (h3 : zIn j (zSh σ a.toNat).2) (h4 : zGd ty v) (k : go (pc + len) env st (mset σ a.toNat j.toNat v)) : zIns C cx R T go pc len env ((zEt1 ty, v) :: (1, j) :: (3, a) :: st) σ i := by
  unfold zIsAs at h
  split at h
  · have e := of_decide_eq_true h; subst e; exact ⟨rfl, rfl, rfl, h1, h2, h3, k⟩
  · rcases of_decide_eq_true h with e | e
    · subst e; exact ⟨rfl, rfl, rfl, h1, h3, Or.inl ⟨h2, h4.1 rfl⟩, k⟩
    · subst e; exact ⟨rfl, rfl, rfl, h1, h3, Or.inr ⟨h2, h4.2 rfl⟩, k⟩
  · have e := of_decide_eq_true h; subst e; exact ⟨rfl, rfl, rfl, h1, h2, h3, k⟩
  · cases h
def sSe (ty : Nat) (a j e : zE) : zS := ⟨(zS0 true (fun cx pc => if a.1.2.1 = 3 ∧ j.1.2.1 = 1 ∧ e.1.2.1 = zEt1 ty then (a.1.1 cx 0 pc).bind (fun q => (j.1.1 cx 1 q).bind (fun r => (e.1.1 cx 2 r).bind (fun u => zI1 cx u (zIsAs ty)))) else none),
    fun C env σ N _ _ _ T => a.1.2.2 C env σ (fun x σ1 => j.1.2.2 C env σ1 (fun y σ2 => e.1.2.2 C env σ2 (fun v σ3 => 4 < x ∧ (zSh σ3 x.toNat).1 = ty ∧ zIn y (zSh σ3 x.toNat).2 ∧ zGd ty v ∧ N env (mset σ3 x.toNat y.toNat v)) T) T) T),
  fun _ _ _ _ _ _ _ _ _ _ _ _ _ _ hC hN _ _ _ hT h => a.2.1 _ _ _ _ _ _ _ _ hC (fun _ _ q => j.2.1 _ _ _ _ _ _ _ _ hC (fun _ _ q => e.2.1 _ _ _ _ _ _ _ _ hC (fun _ _ q => ⟨q.1, q.2.1, q.2.2.1, q.2.2.2.1, hN _ _ q.2.2.2.2⟩) hT q) hT q) hT h, by
  intro cx i o h
  dsimp only at h
  obtain ⟨p, h1, rfl, ex⟩ := zS0_spec h
  split at h1
  · next ht =>
    obtain ⟨t1, t2, t3⟩ := ht
    obtain ⟨q, h2, h1⟩ := Option.bind_eq_some_iff.mp h1
    obtain ⟨r, h3, h1⟩ := Option.bind_eq_some_iff.mp h1
    obtain ⟨u, h4, h5⟩ := Option.bind_eq_some_iff.mp h1
    obtain ⟨i', len, hi, hf, rfl⟩ := zI1_spec h5
    obtain ⟨l1, s1⟩ := a.2.2 cx 0 i.1 q h2
    obtain ⟨l2, s2⟩ := j.2.2 cx 1 q r h3
    obtain ⟨l3, s3⟩ := e.2.2 cx 2 r u h4
    refine ⟨by dsimp only; omega, fun C hC env env1 σ N B O R Ts T hs hw hN _ _ kt => ?_⟩
    dsimp only at kt
    refine ex C hC R T env1 σ (s1 C hC env env1 [] σ _ Ts R T rfl hs hw (fun v σ1 hv => s2 C hC env env1 _ σ1 _ Ts R T rfl hs hv (fun v2 σ2 hv2 => s3 C hC env env1 _ σ2 _ Ts R T rfl hs hv2 (fun v3 σ3 hv3 => zRun_step hC hi ?_) (fun q' o' σ' a1 a2 a3 => kt q' env1 o' σ' (by omega) (by omega) zKp.rf a3)) (fun q' o' σ' a1 a2 a3 => kt q' env1 o' σ' (by omega) (by omega) zKp.rf a3)) (fun q' o' σ' a1 a2 a3 => kt q' env1 o' σ' a1 (by omega) zKp.rf a3))
    rw [t1, t2, t3]
    exact zIsAs_spec hf hv3.1 hv3.2.1 hv3.2.2.1 hv3.2.2.2.1 ((hN _ _ _ hs zKp.rf hv3.2.2.2.2).1 rfl)
  · cases h1⟩
/-- a[j] op= e, ints -/
def sSeo (a j : zE) (o : zO2) (e : zE) : zS := ⟨(zS0 true (fun cx pc => if a.1.2.1 = 3 ∧ j.1.2.1 = 1 ∧ o.1.2.1.1 = 1 ∧ e.1.2.1 = o.1.2.1.2 ∧ o.1.2.2.1 = 1 then (a.1.1 cx 0 pc).bind (fun q => (j.1.1 cx 1 q).bind (fun r => (zI1 cx r (fun i => decide (i = .dup2))).bind (fun q1 => (zI1 cx q1 (fun i => decide (i = .iaload))).bind (fun q2 => (e.1.1 cx 3 q2).bind (fun q3 => (zI1 cx q3 (o.1.1 cx)).bind (fun q4 => zI1 cx q4 (zIsAs 1))))))) else none),
    fun C env σ N _ _ _ T => a.1.2.2 C env σ (fun x σ1 => j.1.2.2 C env σ1 (fun y σ2 => 4 < x ∧ (zSh σ2 x.toNat).1 = 1 ∧ zIn y (zSh σ2 x.toNat).2 ∧ e.1.2.2 C env σ2 (fun v σ3 => (zSh σ3 x.toNat).1 = 1 ∧ zIn y (zSh σ3 x.toNat).2 ∧ o.1.2.2.2.1 (σ2 x.toNat y.toNat) v σ3 ∧ N env (mset σ3 x.toNat y.toNat (o.1.2.2.2.2 (σ2 x.toNat y.toNat) v σ3))) T) T) T),
  fun _ _ _ _ _ _ _ _ _ _ _ _ _ _ hC hN _ _ _ hT h => a.2.1 _ _ _ _ _ _ _ _ hC (fun _ _ q => j.2.1 _ _ _ _ _ _ _ _ hC (fun _ _ q => ⟨q.1, q.2.1, q.2.2.1, e.2.1 _ _ _ _ _ _ _ _ hC (fun _ _ q => ⟨q.1, q.2.1, q.2.2.1, hN _ _ q.2.2.2⟩) hT q.2.2.2⟩) hT q) hT h, by
  intro cx i o' h
  dsimp only at h
  obtain ⟨p, h1, rfl, ex⟩ := zS0_spec h
  split at h1
  · next ht =>
    obtain ⟨t1, t2, t3, t4, t5⟩ := ht
    obtain ⟨q, h2, h1⟩ := Option.bind_eq_some_iff.mp h1
    obtain ⟨r, h3, h1⟩ := Option.bind_eq_some_iff.mp h1
    obtain ⟨q1, h4, h1⟩ := Option.bind_eq_some_iff.mp h1
    obtain ⟨q2, h5, h1⟩ := Option.bind_eq_some_iff.mp h1
    obtain ⟨q3, h6, h1⟩ := Option.bind_eq_some_iff.mp h1
    obtain ⟨q4, h7, h8⟩ := Option.bind_eq_some_iff.mp h1
    obtain ⟨l1, s1⟩ := a.2.2 cx 0 i.1 q h2
    obtain ⟨l2, s2⟩ := j.2.2 cx 1 q r h3
    obtain ⟨i4, len4, hi4, hf4, rfl⟩ := zI1_spec h4
    obtain ⟨i5, len5, hi5, hf5, rfl⟩ := zI1_spec h5
    obtain ⟨l3, s3⟩ := e.2.2 cx 3 _ q3 h6
    obtain ⟨i7, len7, hi7, hf7, rfl⟩ := zI1_spec h7
    obtain ⟨i8, len8, hi8, hf8, rfl⟩ := zI1_spec h8
    refine ⟨by dsimp only; omega, fun C hC env env1 σ N B O R Ts T hs hw hN _ _ kt => ?_⟩
    dsimp only at kt
    refine ex C hC R T env1 σ (s1 C hC env env1 [] σ _ Ts R T rfl hs hw (fun x σ1 hx => s2 C hC env env1 _ σ1 _ Ts R T rfl hs hx (fun y σ2 hy => zRun_step hC hi4 ?_) (fun q' o' σ' a1 a2 a3 => kt q' env1 o' σ' (by omega) (by omega) zKp.rf a3)) (fun q' o' σ' a1 a2 a3 => kt q' env1 o' σ' a1 (by omega) zKp.rf a3))
    cases of_decide_eq_true hf4
    cases of_decide_eq_true hf5
    rw [t1, t2]
    refine ⟨rfl, rfl, zRun_step hC hi5 ⟨rfl, rfl, by omega, hy.2.1, hy.2.2.1, ?_⟩⟩
    refine s3 C hC env env1 _ σ2 _ Ts R T rfl hs hy.2.2.2 (fun v σ3 hv => zRun_step hC hi7 ?_) (fun q' o' σ' a1 a2 a3 => kt q' env1 o' σ' (by omega) (by omega) zKp.rf a3)
    rw [t4]
    refine (t3 ▸ o.2 cx i7 hf7 _ _ _ _ _ _ _ _ σ3 (σ2 x.toNat y.toNat) v hv.2.2.1 (zRun_step hC hi8 ?_) :)
    rw [t5]
    exact zIsAs_spec hf8 hy.1 hv.1 hv.2.1 ⟨fun e => (by omega), fun e => (by omega)⟩ ((hN _ _ _ hs zKp.rf hv.2.2.2).1 rfl)
  · cases h1⟩
