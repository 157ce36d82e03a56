-- ## loops: least fixed points
def zLpW (c : zC) (b u : zS) (C : zCS) (env : List zTV) (σ : Mem) (N : zV) (R T : zK) : Prop :=
  ∀ P : zV, (∀ env σ, c.1.2 C env σ (fun x σ1 => (x = true → b.1.2 C env σ1 (fun e σ2 => u.1.2 C e σ2 P (fun _ _ => False) (fun _ _ => False) R T) N (fun e σ2 => u.1.2 C e σ2 P (fun _ _ => False) (fun _ _ => False) R T) R T) ∧ (x = false → N env σ1)) T → P env σ) → P env σ
/-- the loop, one turn -/
theorem zLpW_in {c : zC} {b u : zS} {C : zCS} (hC : zMono C) {env : List zTV} {σ : Mem} {N : zV} {R T : zK} (h : c.1.2 C env σ (fun x σ1 => (x = true → b.1.2 C env σ1 (fun e σ2 => u.1.2 C e σ2 (fun e σ3 => zLpW c b u C e σ3 N R T) (fun _ _ => False) (fun _ _ => False) R T) N (fun e σ2 => u.1.2 C e σ2 (fun e σ3 => zLpW c b u C e σ3 N R T) (fun _ _ => False) (fun _ _ => False) R T) R T) ∧ (x = false → N env σ1)) T) : zLpW c b u C env σ N R T := by
  intro P hP
  have hu : ∀ e σ, u.1.2 C e σ (fun e σ3 => zLpW c b u C e σ3 N R T) (fun _ _ => False) (fun _ _ => False) R T → u.1.2 C e σ P (fun _ _ => False) (fun _ _ => False) R T := fun e σ q => u.2.1 _ _ _ _ _ _ _ _ _ _ _ _ _ _ hC (fun _ _ z => z P hP) (fun _ _ => id) (fun _ _ => id) (fun _ _ => id) (fun _ _ => id) q
  exact hP _ _ (c.2.1 _ _ _ _ _ _ _ _ hC (fun _ _ q => ⟨fun e => b.2.1 _ _ _ _ _ _ _ _ _ _ _ _ _ _ hC hu (fun _ _ => id) hu (fun _ _ => id) (fun _ _ => id) (q.1 e), q.2⟩) (fun _ _ => id) h)
theorem zLpW_mono {c : zC} {b u : zS} {C C' : zCS} {env : List zTV} {σ : Mem} {N N' : zV} {R R' T T' : zK} (hC : zLe C C') (hN : ∀ e σ, N e σ → N' e σ) (hR : ∀ v σ, R v σ → R' v σ) (hT : ∀ v σ, T v σ → T' v σ) (h : zLpW c b u C env σ N R T) : zLpW c b u C' env σ N' R' T' := by
  intro P hP
  refine h P fun env σ q => hP env σ ?_
  have hu : ∀ e σ, u.1.2 C e σ P (fun _ _ => False) (fun _ _ => False) R T → u.1.2 C' e σ P (fun _ _ => False) (fun _ _ => False) R' T' := fun e σ q => u.2.1 _ _ _ _ _ _ _ _ _ _ _ _ _ _ hC (fun _ _ => id) (fun _ _ => id) (fun _ _ => id) hR hT q
  exact c.2.1 _ _ _ _ _ _ _ _ hC (fun _ _ q => ⟨fun e => b.2.1 _ _ _ _ _ _ _ _ _ _ _ _ _ _ hC hu hN hu hR hT (q.1 e), fun e => hN _ _ (q.2 e)⟩) hT q
def sWh (c : zC) (b u : zS) : zS := ⟨(fun cx i => if zAll cx i.1 i.2.2 = true then (c.1.1 cx 0 true i.1).bind (fun j => (b.1.1 cx (j.1, true, j.2.1)).bind (fun o => (u.1.1 cx (o.1.1, o.1.2.1, o.1.2.2 ++ o.2.2)).bind (fun p => (zJump cx p.1).bind (fun q => if q.2.all (fun t => t == i.1) = true then some ((q.1, false, j.2.2 ++ o.2.1), [], []) else none)))) else none,
    fun C env σ N _ _ R T => zLpW c b u C env σ N R T),
  fun _ _ _ _ _ _ _ _ _ _ _ _ _ _ hC hN _ _ hR hT h => zLpW_mono hC hN hR hT h, by
  intro cx i o h
  dsimp only at h
  split at h
  · next ha =>
    obtain ⟨j, h1, h⟩ := Option.bind_eq_some_iff.mp h
    obtain ⟨o1, h2, h⟩ := Option.bind_eq_some_iff.mp h
    obtain ⟨p, h3, h⟩ := Option.bind_eq_some_iff.mp h
    obtain ⟨q, h4, h⟩ := Option.bind_eq_some_iff.mp h
    split at h
    · next hq =>
      have e := (Option.some.inj h).symm
      subst e
      obtain ⟨l1, s1⟩ := c.2.2 cx 0 true i.1 j h1
      obtain ⟨l2, s2⟩ := b.2.2 cx _ o1 h2
      obtain ⟨l3, s3⟩ := u.2.2 cx _ p h3
      obtain ⟨l4, s4⟩ := zJump_spec h4
      dsimp only at l2 l3
      refine ⟨by dsimp only; omega, fun C hC env env1 σ N B O R Ts T hs hw hN hB hO kt => ?_⟩
      dsimp only at hN hB hO kt
      have go : zRun C cx R T i.1 env1 [] σ := hw (fun env σ => ∀ e1, zSub env e1 → zKp cx e1 env1 → zRun C cx R T i.1 e1 [] σ) (fun env σ hx e1 he hk => by
        have st : ∀ e σ2, u.1.2 C e σ2 (fun env σ => ∀ e1, zSub env e1 → zKp cx e1 env1 → zRun C cx R T i.1 e1 [] σ) (fun _ _ => False) (fun _ _ => False) R Ts → ∀ e1, zSub e e1 → zKp cx e1 env1 → zAtO C cx R T (o1.1.1, o1.1.2.1, o1.1.2.2 ++ o1.2.2) e1 σ2 := fun e σ2 hu e2 he2 hk2 => s3 C hC e e2 σ2 _ _ _ R Ts T he2 hu (fun e' e1' σ'' a1 a2 a3 => s4 C hC R T e1' σ'' (fun t ht => by
            rw [eq_of_beq (List.all_eq_true.mp hq t ht)]
            exact a3 e1' a1 (a2.tr hk2))) (fun _ _ _ _ _ a3 => a3.elim) (fun _ _ _ _ _ a3 => a3.elim) (fun q' e1' v σ'' a1 a2 a3 a4 => kt q' e1' v σ'' (by dsimp only at a1; omega) (by omega) (a3.tr hk2) a4)
        refine s1 C hC env e1 [] σ _ Ts R T rfl he hx (fun x σ1 hx => ?_) (fun q' o' σ' a1 a2 a3 => kt q' e1 o' σ' a1 (by omega) hk a3)
        have g1 : x = true → zAtO C cx R T (j.1, true, j.2.1) e1 σ1 := fun e => s2 C hC env e1 σ1 _ _ _ R Ts T he (hx.1 e) (fun e' e1' σ'' a1 a2 a3 => by
            have z := st e' σ'' a3 e1' a1 (a2.tr hk)
            exact ⟨z.1, fun t ht => z.2 t (List.mem_append_left _ ht)⟩) (fun e' e1' σ'' a1 a2 a3 t ht => (hN e' e1' σ'' a1 (a2.tr hk) a3).2 t (List.mem_append_right _ ht)) (fun e' e1' σ'' a1 a2 a3 t ht => (st e' σ'' a3 e1' a1 (a2.tr hk)).2 t (List.mem_append_right _ ht)) (fun q' e1' v σ'' a1 a2 a3 a4 => kt q' e1' v σ'' (by dsimp only at a1; omega) (by omega) (a3.tr hk) a4)
        exact ⟨fun e => (g1 e).1 rfl, fun e => (g1 e).2, fun e t ht => (hN _ _ _ he hk (hx.2 e)).2 t (List.mem_append_left _ ht)⟩) env1 hs zKp.rf
      exact ⟨fun _ => go, zAll_spec hC ha go⟩
    · cases h
  · cases h⟩
def zLoW (b : zS) (C : zCS) (env : List zTV) (σ : Mem) (N : zV) (R T : zK) : Prop :=
  ∀ P : zV, (∀ env σ, b.1.2 C env σ P N P R T → P env σ) → P env σ
theorem zLoW_in {b : zS} {C : zCS} (hC : zMono C) {env : List zTV} {σ : Mem} {N : zV} {R T : zK} (h : b.1.2 C env σ (fun e σ3 => zLoW b C e σ3 N R T) N (fun e σ3 => zLoW b C e σ3 N R T) R T) : zLoW b C env σ N R T := by
  intro P hP
  exact hP _ _ (b.2.1 _ _ _ _ _ _ _ _ _ _ _ _ _ _ hC (fun _ _ z => z P hP) (fun _ _ => id) (fun _ _ z => z P hP) (fun _ _ => id) (fun _ _ => id) h)
theorem zLoW_mono {b : zS} {C C' : zCS} {env : List zTV} {σ : Mem} {N N' : zV} {R R' T T' : zK} (hC : zLe C C') (hN : ∀ e σ, N e σ → N' e σ) (hR : ∀ v σ, R v σ → R' v σ) (hT : ∀ v σ, T v σ → T' v σ) (h : zLoW b C env σ N R T) : zLoW b C' env σ N' R' T' := by
  intro P hP
  exact h P fun env σ q => hP env σ (b.2.1 _ _ _ _ _ _ _ _ _ _ _ _ _ _ hC (fun _ _ => id) hN (fun _ _ => id) hR hT q)
/-- while (true) -/
def sLoop (b : zS) : zS := ⟨(fun cx i => if zAll cx i.1 i.2.2 = true then (b.1.1 cx (i.1, true, [])).bind (fun o => (zJump cx (o.1.1, o.1.2.1, o.1.2.2 ++ o.2.2)).bind (fun q => if q.2.all (fun t => t == i.1) = true then some ((q.1, false, o.2.1), [], []) else none)) else none,
    fun C env σ N _ _ R T => zLoW b C env σ N R T),
  fun _ _ _ _ _ _ _ _ _ _ _ _ _ _ hC hN _ _ hR hT h => zLoW_mono hC hN hR hT h, by
  intro cx i o h
  dsimp only at h
  split at h
  · next ha =>
    obtain ⟨o1, h2, h⟩ := Option.bind_eq_some_iff.mp h
    obtain ⟨q, h4, h⟩ := Option.bind_eq_some_iff.mp h
    split at h
    · next hq =>
      have e := (Option.some.inj h).symm
      subst e
      obtain ⟨l2, s2⟩ := b.2.2 cx _ o1 h2
      obtain ⟨l4, s4⟩ := zJump_spec h4
      dsimp only at l2 l4
      refine ⟨by dsimp only; omega, fun C hC env env1 σ N B O R Ts T hs hw hN hB hO kt => ?_⟩
      dsimp only at hN hB hO kt
      have go : zRun C cx R T i.1 env1 [] σ := hw (fun env σ => ∀ e1, zSub env e1 → zKp cx e1 env1 → zRun C cx R T i.1 e1 [] σ) (fun env σ hx e1 he hk => by
        have st : ∀ e σ2, (∀ e1, zSub e e1 → zKp cx e1 env1 → zRun C cx R T i.1 e1 [] σ2) → ∀ e1, zSub e e1 → zKp cx e1 env1 → zAtO C cx R T (o1.1.1, o1.1.2.1, o1.1.2.2 ++ o1.2.2) e1 σ2 := fun e σ2 hu e2 he2 hk2 => s4 C hC R T e2 σ2 (fun t ht => by
            rw [eq_of_beq (List.all_eq_true.mp hq t ht)]
            exact hu e2 he2 hk2)
        exact (s2 C hC env e1 σ _ _ _ R Ts T he hx (fun e' e1' σ'' a1 a2 a3 => by
            have z := st e' σ'' a3 e1' a1 (a2.tr hk)
            exact ⟨z.1, fun t ht => z.2 t (List.mem_append_left _ ht)⟩) (fun e' e1' σ'' a1 a2 a3 t ht => (hN e' e1' σ'' a1 (a2.tr hk) a3).2 t ht) (fun e' e1' σ'' a1 a2 a3 t ht => (st e' σ'' a3 e1' a1 (a2.tr hk)).2 t (List.mem_append_right _ ht)) (fun q' e1' v σ'' a1 a2 a3 a4 => kt q' e1' v σ'' a1 (by omega) (a3.tr hk) a4)).1 rfl) env1 hs zKp.rf
      exact ⟨fun _ => go, zAll_spec hC ha go⟩
    · cases h
  · cases h⟩
def zDoW (b : zS) (c : zC) (C : zCS) (env : List zTV) (σ : Mem) (N : zV) (R T : zK) : Prop :=
  ∀ P : zV, (∀ env σ, b.1.2 C env σ (fun e σ1 => c.1.2 C e σ1 (fun x σ2 => (x = true → P e σ2) ∧ (x = false → N e σ2)) T) N (fun e σ1 => c.1.2 C e σ1 (fun x σ2 => (x = true → P e σ2) ∧ (x = false → N e σ2)) T) R T → P env σ) → P env σ
theorem zDoW_in {b : zS} {c : zC} {C : zCS} (hC : zMono C) {env : List zTV} {σ : Mem} {N : zV} {R T : zK} (h : b.1.2 C env σ (fun e σ1 => c.1.2 C e σ1 (fun x σ2 => (x = true → zDoW b c C e σ2 N R T) ∧ (x = false → N e σ2)) T) N (fun e σ1 => c.1.2 C e σ1 (fun x σ2 => (x = true → zDoW b c C e σ2 N R T) ∧ (x = false → N e σ2)) T) R T) : zDoW b c C env σ N R T := by
  intro P hP
  have hu : ∀ e σ1, c.1.2 C e σ1 (fun x σ2 => (x = true → zDoW b c C e σ2 N R T) ∧ (x = false → N e σ2)) T → c.1.2 C e σ1 (fun x σ2 => (x = true → P e σ2) ∧ (x = false → N e σ2)) T := fun e σ1 q => c.2.1 _ _ _ _ _ _ _ _ hC (fun _ _ z => ⟨fun e => z.1 e P hP, z.2⟩) (fun _ _ => id) q
  exact hP _ _ (b.2.1 _ _ _ _ _ _ _ _ _ _ _ _ _ _ hC hu (fun _ _ => id) hu (fun _ _ => id) (fun _ _ => id) h)
theorem zDoW_mono {b : zS} {c : zC} {C C' : zCS} {env : List zTV} {σ : Mem} {N N' : zV} {R R' T T' : zK} (hC : zLe C C') (hN : ∀ e σ, N e σ → N' e σ) (hR : ∀ v σ, R v σ → R' v σ) (hT : ∀ v σ, T v σ → T' v σ) (h : zDoW b c C env σ N R T) : zDoW b c C' env σ N' R' T' := by
  intro P hP
  refine h P fun env σ q => hP env σ ?_
  have hu : ∀ e σ1, c.1.2 C e σ1 (fun x σ2 => (x = true → P e σ2) ∧ (x = false → N e σ2)) T → c.1.2 C' e σ1 (fun x σ2 => (x = true → P e σ2) ∧ (x = false → N' e σ2)) T' := fun e σ1 q => c.2.1 _ _ _ _ _ _ _ _ hC (fun _ _ z => ⟨z.1, fun e => hN _ _ (z.2 e)⟩) hT q
  exact b.2.1 _ _ _ _ _ _ _ _ _ _ _ _ _ _ hC hu hN hu hR hT q
def sDo (b : zS) (c : zC) : zS := ⟨(fun cx i => if zAll cx i.1 i.2.2 = true then (b.1.1 cx (i.1, true, [])).bind (fun o => if zAll cx o.1.1 (o.1.2.2 ++ o.2.2) = true then (c.1.1 cx 0 false o.1.1).bind (fun j => if j.2.1.all (fun t => t == i.1) = true then some ((j.1, true, j.2.2 ++ o.2.1), [], []) else none) else none) else none,
    fun C env σ N _ _ R T => zDoW b c C env σ N R T),
  fun _ _ _ _ _ _ _ _ _ _ _ _ _ _ hC hN _ _ hR hT h => zDoW_mono hC hN hR hT h, by
  intro cx i o h
  dsimp only at h
  split at h
  · next ha =>
    obtain ⟨o1, h1, h⟩ := Option.bind_eq_some_iff.mp h
    split at h
    · next hb =>
      obtain ⟨j, h2, h⟩ := Option.bind_eq_some_iff.mp h
      split at h
      · next hj =>
        have e := (Option.some.inj h).symm
        subst e
        obtain ⟨l1, s1⟩ := b.2.2 cx _ o1 h1
        obtain ⟨l2, s2⟩ := c.2.2 cx 0 false _ j h2
        dsimp only at l1
        refine ⟨by dsimp only; omega, fun C hC env env1 σ N B O R Ts T hs hw hN hB hO kt => ?_⟩
        dsimp only at hN hB hO kt
        have go : zRun C cx R T i.1 env1 [] σ := hw (fun env σ => ∀ e1, zSub env e1 → zKp cx e1 env1 → zRun C cx R T i.1 e1 [] σ) (fun env σ hx e1 he hk => by
          have st : ∀ e σ1, c.1.2 C e σ1 (fun x σ2 => (x = true → ∀ e1, zSub e e1 → zKp cx e1 env1 → zRun C cx R T i.1 e1 [] σ2) ∧ (x = false → N e σ2)) Ts → ∀ e1, zSub e e1 → zKp cx e1 env1 → zRun C cx R T o1.1.1 e1 [] σ1 := fun e σ1 hu e2 he2 hk2 => s2 C hC e e2 [] σ1 _ Ts R T rfl he2 hu (fun x σ2 hx => ⟨fun e => (hN _ _ _ he2 hk2 (hx.2 e)).1 rfl, fun e t ht => by
              rw [eq_of_beq (List.all_eq_true.mp hj t ht)]
              exact hx.1 e e2 he2 hk2, fun e t ht => (hN _ _ _ he2 hk2 (hx.2 e)).2 t (List.mem_append_left _ ht)⟩) (fun q' o' σ' a1 a2 a3 => kt q' e2 o' σ' (by omega) a2 hk2 a3)
          exact (s1 C hC env e1 σ _ _ _ R Ts T he hx (fun e' e1' σ'' a1 a2 a3 => by
              have z := st e' σ'' a3 e1' a1 (a2.tr hk)
              exact ⟨fun _ => z, fun t ht => zAll_spec hC hb z t (List.mem_append_left _ ht)⟩) (fun e' e1' σ'' a1 a2 a3 t ht => (hN e' e1' σ'' a1 (a2.tr hk) a3).2 t (List.mem_append_right _ ht)) (fun e' e1' σ'' a1 a2 a3 t ht => zAll_spec hC hb (st e' σ'' a3 e1' a1 (a2.tr hk)) t (List.mem_append_right _ ht)) (fun q' e1' v σ'' a1 a2 a3 a4 => kt q' e1' v σ'' a1 (by omega) (a3.tr hk) a4)).1 rfl) env1 hs zKp.rf
        exact ⟨fun _ => go, zAll_spec hC ha go⟩
      · cases h
    · cases h
  · cases h⟩
-- ## switch
def zGw : List zS → zCS → List zTV → Mem → zV → zV → zK → zK → Prop
  | [], _, env, σ, N, _, _, _ => N env σ
  | s :: r, C, env, σ, N, O, R, T => s.1.2 C env σ (fun e σ' => zGw r C e σ' N O R T) N O R T
def zSwW (k : Nat → Prop) (d : Nat) (x : Int) : List (Int × Nat) → Prop
  | [] => k d
  | (v, j) :: t => (x = v → k j) ∧ (x ≠ v → zSwW k d x t)
def zLkp (d : Nat) (x : Int) : List (Int × Nat) → Nat
  | [] => d
  | (v, j) :: t => if x = v then j else zLkp d x t
theorem zSwW_lkp {k : Nat → Prop} {d : Nat} {x : Int} : ∀ tab : List (Int × Nat), zSwW k d x tab → k (zLkp d x tab)
  | [], h => h
  | (v, j) :: t, h => by
    unfold zLkp
    split
    · next e => exact h.1 e
    · next e => exact zSwW_lkp t (h.2 e)
theorem zSwW_mono {k k' : Nat → Prop} (h : ∀ j, k j → k' j) {d : Nat} {x : Int} : ∀ tab : List (Int × Nat), zSwW k d x tab → zSwW k' d x tab
  | [], q => h _ q
  | (_, _) :: t, q => ⟨fun e => h _ (q.1 e), fun e => zSwW_mono h t (q.2 e)⟩
theorem zGw_mono : ∀ (gs : List zS) {C C' : zCS} {env : List zTV} {σ : Mem} {N N' O O' : zV} {R R' T T' : zK}, zLe C C' → (∀ e σ, N e σ → N' e σ) → (∀ e σ, O e σ → O' e σ) → (∀ v σ, R v σ → R' v σ) → (∀ v σ, T v σ → T' v σ) → zGw gs C env σ N O R T → zGw gs C' env σ N' O' R' T'
  | [], _, _, _, _, _, _, _, _, _, _, _, _, _, hN, _, _, _, h => hN _ _ h
  | s :: r, _, _, _, _, _, _, _, _, _, _, _, _, hC, hN, hO, hR, hT, h => s.2.1 _ _ _ _ _ _ _ _ _ _ _ _ _ _ hC (fun _ _ q => zGw_mono r hC hN hO hR hT q) hN hO hR hT h
def zGsC (cx : zCx) : List zS → zIo → Option (List Nat × zIo × List Nat × List Nat)
  | [], i => some ([], i, [], [])
  | s :: r, i => (s.1.1 cx (i.1, true, i.2.2)).bind (fun o => (zGsC cx r o.1).map (fun q => (i.1 :: q.1, q.2.1, o.2.1 ++ q.2.2.1, o.2.2 ++ q.2.2.2)))
theorem zGsC_spec {cx : zCx} : ∀ (gs : List zS) {i : zIo} {q : List Nat × zIo × List Nat × List Nat}, zGsC cx gs i = some q → i.1 ≤ q.2.1.1 ∧ ∀ C, zMono C → ∀ (fl : Bool) (N O : zV) (R Ts T : zK) (e0 : List zTV),
    (∀ e e1 σ', zSub e e1 → zKp cx e1 e0 → N e σ' → (fl = true → zRun C cx R T q.2.1.1 e1 [] σ') ∧ zAtO C cx R T q.2.1 e1 σ' ∧ ∀ t ∈ q.2.2.1, zRun C cx R T t e1 [] σ') →
    (∀ e e1 σ', zSub e e1 → zKp cx e1 e0 → O e σ' → ∀ t ∈ q.2.2.2, zRun C cx R T t e1 [] σ') →
    (∀ u e1 v σ', i.1 ≤ u → u < q.2.1.1 → zKp cx e1 e0 → Ts v σ' → zThr cx T (zRun C cx R T) u e1 v σ') →
    ∀ (j : Nat) (env env1 : List zTV) (σ : Mem), zSub env env1 → zKp cx env1 e0 → zGw (gs.drop j) C env σ N O R Ts → (j < gs.length ∨ fl = true → zRun C cx R T (q.1.getD j q.2.1.1) env1 [] σ) ∧ (j = 0 → zAtO C cx R T i env1 σ)
  | [], i, q, h => by
    have e := (Option.some.inj h).symm
    subst e
    refine ⟨Nat.le_refl _, fun C hC fl N O R Ts T e0 hN hO kt j env env1 σ hs hk hw => ?_⟩
    rw [List.drop_nil] at hw
    obtain ⟨a, b, c⟩ := hN env env1 σ hs hk hw
    exact ⟨fun hj => by simpa using a (hj.resolve_left (by simp)), fun _ => b⟩
  | s :: r, i, q, h => by
    obtain ⟨o, h1, h2⟩ := Option.bind_eq_some_iff.mp h
    obtain ⟨p, h3, rfl⟩ := Option.map_eq_some_iff.mp h2
    obtain ⟨l1, s1⟩ := s.2.2 cx _ o h1
    obtain ⟨l2, s2⟩ := zGsC_spec r h3
    dsimp only at l1
    refine ⟨Nat.le_trans l1 l2, fun C hC fl N O R Ts T e0 hN hO kt => ?_⟩
    dsimp only at hN hO kt
    have s2' := s2 C hC fl N O R Ts T e0 (fun e e1 σ' a1 a2 a3 => by
      obtain ⟨a, b, c⟩ := hN e e1 σ' a1 a2 a3
      exact ⟨a, b, fun t ht => c t (List.mem_append_right _ ht)⟩) (fun e e1 σ' a1 a2 a3 t ht => hO e e1 σ' a1 a2 a3 t (List.mem_append_right _ ht)) (fun u e1 v σ' a1 a2 a3 a4 => kt u e1 v σ' (by omega) a2 a3 a4)
    intro j env env1 σ hs hk hw
    cases j with
    | zero =>
      have z : zAtO C cx R T (i.1, true, i.2.2) env1 σ := s1 C hC env env1 σ _ _ _ R Ts T hs hw (fun e' e1' σ'' a1 a2 a3 => (s2' 0 e' e1' σ'' a1 (a2.tr hk) (by rw [List.drop_zero]; exact a3)).2 rfl) (fun e' e1' σ'' a1 a2 a3 t ht => (hN e' e1' σ'' a1 (a2.tr hk) a3).2.2 t (List.mem_append_left _ ht)) (fun e' e1' σ'' a1 a2 a3 t ht => hO e' e1' σ'' a1 (a2.tr hk) a3 t (List.mem_append_left _ ht)) (fun q' e1' v σ'' a1 a2 a3 a4 => kt q' e1' v σ'' a1 (by omega) (a3.tr hk) a4)
      exact ⟨fun _ => z.1 rfl, fun _ => ⟨fun _ => z.1 rfl, z.2⟩⟩
    | succ j =>
      rw [List.drop_succ_cons] at hw
      refine ⟨fun hj => ?_, fun e => by omega⟩
      have z := (s2' j env env1 σ hs hk hw).1 (hj.imp (fun h => by simpa using h) id)
      simpa [List.getD] using z
def zSwI (cx : zCx) (pc : Nat) : Option (Nat × Int × List (Int × Int)) := match cx.2.2.2.1 pc with
  | some (.tableswitch d lo hi os, len) => if lo + os.size = hi + 1 then some (pc + len, d, zTab lo os.toList) else none
  | some (.lookupswitch d qs, len) => if (qs.toList.zip (qs.toList.drop 1)).all (fun (a, next) => a.1 < next.1) = true then some (pc + len, d, qs.toList) else none
  | _ => none
theorem zSwI_spec {C : zCS} (hC : zMono C) {cx : zCx} {R T : zK} {pc : Nat} {p : Nat × Int × List (Int × Int)} (h : zSwI cx pc = some p) : pc ≤ p.1 ∧ ∀ (env st : List zTV) (σ : Mem) (x : Int), zSw pc p.2.1 p.2.2 x (fun q => zRun C cx R T q env st σ) → zRun C cx R T pc env ((1, x) :: st) σ := by
  unfold zSwI at h
  split at h
  · next d lo hi os len hi' =>
    split at h
    · next hl =>
      have e := (Option.some.inj h).symm
      subst e
      exact ⟨Nat.le_add_right _ _, fun env st σ x k => zRun_step hC hi' ⟨rfl, hl, k⟩⟩
    · cases h
  · next d qs len hi' =>
    split at h
    · next hl =>
      have e := (Option.some.inj h).symm
      subst e
      exact ⟨Nat.le_add_right _ _, fun env st σ x k => zRun_step hC hi' ⟨rfl, hl, k⟩⟩
    · cases h
  · cases h
/-- the switch's table leads to where the groups begin -/
def zSwT (pc : Nat) (dd : Int) (ps : List (Int × Int)) (S : List Nat) (pe d : Nat) (tab : List (Int × Nat)) : Bool :=
  decide ((pc : Int) + dd = (S.getD d pe : Nat)) && ps.all (fun q => decide ((pc : Int) + q.2 = (S.getD (zLkp d q.1 tab) pe : Nat))) && tab.all (fun q => (ps.map Prod.fst).contains q.1 || decide ((pc : Int) + dd = (S.getD q.2 pe : Nat)))
theorem zSwT_spec {pc : Nat} {dd : Int} {S : List Nat} {pe d : Nat} {tab : List (Int × Nat)} {x : Int} {k : Nat → Prop} (hk : k (S.getD (zLkp d x tab) pe)) : ∀ ps : List (Int × Int), (ps.all (fun q => decide ((pc : Int) + q.2 = (S.getD (zLkp d q.1 tab) pe : Nat))) = true) → (x ∉ ps.map Prod.fst → (pc : Int) + dd = (S.getD (zLkp d x tab) pe : Nat)) → zSw pc dd ps x k
  | [], _, h => by
    have e := h (by simp)
    refine ⟨by rw [e]; exact Int.natCast_nonneg _, ?_⟩
    rw [e, Int.toNat_natCast]
    exact hk
  | (v, o) :: t, h, h' => by
    rw [List.all_cons, Bool.and_eq_true] at h
    refine ⟨fun e => ?_, fun e => zSwT_spec hk t h.2 (fun hn => h' (by simp only [List.map_cons, List.mem_cons, not_or]; exact ⟨e, hn⟩))⟩
    have e2 := of_decide_eq_true h.1
    dsimp only at e2
    rw [← e] at e2
    refine ⟨by rw [e2]; exact Int.natCast_nonneg _, ?_⟩
    rw [e2, Int.toNat_natCast]
    exact hk
theorem zLkp_or {d : Nat} {x : Int} : ∀ tab : List (Int × Nat), zLkp d x tab = d ∨ ∃ q ∈ tab, q.1 = x ∧ zLkp d x tab = q.2
  | [] => Or.inl rfl
  | (v, j) :: t => by
    unfold zLkp
    split
    · next e => exact Or.inr ⟨(v, j), by simp, e.symm, rfl⟩
    · rcases zLkp_or (d := d) (x := x) t with h | ⟨q, h1, h2, h3⟩
      · exact Or.inl h
      · exact Or.inr ⟨q, List.mem_cons_of_mem _ h1, h2, h3⟩
def sSw (e : zE) (tab : List (Int × Nat)) (d : Nat) (gs : List zS) : zS := ⟨(fun cx i => if e.1.2.1 = 1 ∧ zAll cx i.1 i.2.2 = true then (e.1.1 cx 0 i.1).bind (fun p => (zSwI cx p).bind (fun w => (zGsC cx gs (w.1, false, [])).bind (fun q => if zSwT p w.2.1 w.2.2 q.1 q.2.1.1 d tab = true ∧ tab.all (fun q => decide (q.2 < gs.length)) = true then some ((q.2.1.1, q.2.1.2.1 || decide (gs.length ≤ d), q.2.1.2.2 ++ q.2.2.1), [], q.2.2.2) else none))) else none,
    fun C env σ N _ O R T => e.1.2.2 C env σ (fun x σ1 => zSwW (fun j => zGw (gs.drop j) C env σ1 N O R T) d x tab) T),
  fun _ _ _ _ _ _ _ _ _ _ _ _ _ _ hC hN _ hO hR hT h => e.2.1 _ _ _ _ _ _ _ _ hC (fun _ _ q => zSwW_mono (fun _ z => zGw_mono _ hC hN hO hR hT z) _ q) hT h, by
  intro cx i o h
  dsimp only at h
  split at h
  · next ht =>
    obtain ⟨p, h1, h⟩ := Option.bind_eq_some_iff.mp h
    obtain ⟨w, h2, h⟩ := Option.bind_eq_some_iff.mp h
    obtain ⟨q, h3, h⟩ := Option.bind_eq_some_iff.mp h
    split at h
    · next hw' =>
      obtain ⟨hT, hlt⟩ := hw'
      have e' := (Option.some.inj h).symm
      subst e'
      obtain ⟨l1, s1⟩ := e.2.2 cx 0 i.1 p h1
      have hc : zMono (fun _ _ _ _ _ => False) := fun _ _ _ _ _ _ _ _ _ h => h
      have l2 := (zSwI_spec (R := fun _ _ => True) (T := fun _ _ => True) hc h2).1
      obtain ⟨l3, s3⟩ := zGsC_spec gs h3
      dsimp only at l3
      refine ⟨by dsimp only; omega, fun C hC env env1 σ N B O R Ts T hs hw hN hB hO kt => ?_⟩
      dsimp only at hN hB hO kt
      have go : zRun C cx R T i.1 env1 [] σ := s1 C hC env env1 [] σ _ Ts R T rfl hs hw (fun x σ1 hx => by
        rw [ht.1]
        refine (zSwI_spec hC h2).2 env1 [] σ1 x ?_
        unfold zSwT at hT
        rw [Bool.and_eq_true, Bool.and_eq_true] at hT
        obtain ⟨⟨d1, d2⟩, d3⟩ := hT
        have d1 := of_decide_eq_true d1
        have hj := zLkp_or (d := d) (x := x) tab
        have hr : zRun C cx R T (q.1.getD (zLkp d x tab) q.2.1.1) env1 [] σ1 := by
          refine (s3 C hC (decide (gs.length ≤ d)) N O R Ts T env1 (fun e e1 σ' a1 a2 a3 => ?_) hO (fun u e1 v σ' a1 a2 a3 a4 => kt u e1 v σ' (by dsimp only at a1; omega) a2 a3 a4) (zLkp d x tab) env env1 σ1 hs zKp.rf (zSwW_lkp tab hx)).1 ?_
          · have z := hN e e1 σ' a1 a2 a3
            refine ⟨fun hd => z.1 (by rw [hd]; simp), ⟨fun hf => z.1 (by rw [hf]; rfl), fun t ht => z.2 t (List.mem_append_left _ ht)⟩, fun t ht => z.2 t (List.mem_append_right _ ht)⟩
          · rcases hj with h | ⟨u, h1, h2, h3⟩
            · rw [h]
              by_cases hd : d < gs.length
              · exact Or.inl hd
              · exact Or.inr (decide_eq_true (by omega))
            · rw [h3]
              exact Or.inl (of_decide_eq_true (List.all_eq_true.mp hlt u h1))
        refine zSwT_spec hr w.2.2 d2 (fun hn => ?_)
        rcases hj with h | ⟨u, h1, h2, h3⟩
        · rw [h]; exact d1
        · rw [h3]
          rcases Bool.or_eq_true _ _ |>.mp (List.all_eq_true.mp d3 u h1) with z | z
          · exact absurd (by simpa [h2] using z) hn
          · exact of_decide_eq_true z) (fun q' o' σ' a1 a2 a3 => kt q' env1 o' σ' a1 (by omega) zKp.rf a3)
      exact ⟨fun _ => go, zAll_spec hC ht.2 go⟩
    · cases h
  · cases h⟩
-- ## try
def zHenv (k : Nat) (o : Int) (env : List zTV) : List zTV := zSto 3 k o (zKill 1 env)
def sTry (b : zS) (ci k : Nat) (hd : zS) : zS := ⟨(fun cx i => if zAll cx i.1 i.2.2 = true then (b.1.1 cx (i.1, true, [])).bind (fun o => if zAll cx o.1.1 o.1.2.2 = true then (zJump cx (o.1.1, o.1.2.1 || !o.1.2.2.isEmpty, [])).bind (fun q => (zI1 cx q.1 (zIsSt 3 k)).bind (fun r => (hd.1.1 cx (r, true, [])).bind (fun u => (match cx.2.2.2.2 with
      | [(a, b', h, ct)] => if a = i.1 ∧ b' = o.1.1 ∧ h = q.1 ∧ tClass cx.1 ct = some ci ∧ 2 ≤ k then some ((u.1.1, u.1.2.1, q.2 ++ u.1.2.2), o.2.1 ++ u.2.1, o.2.2 ++ u.2.2) else none
      | _ => none)))) else none) else none,
    fun C env σ N B O R T => b.1.2 C env σ N B O R (fun o σ' => 0 < o ∧ zSh σ' o.toNat = (5, ci) ∧ k < env.length ∧ hd.1.2 C (zHenv k o env) σ' N B O R T)),
  fun _ _ _ _ _ _ _ _ _ _ _ _ _ _ hC hN hB hO hR hT h => b.2.1 _ _ _ _ _ _ _ _ _ _ _ _ _ _ hC hN hB hO hR (fun _ _ q => ⟨q.1, q.2.1, q.2.2.1, hd.2.1 _ _ _ _ _ _ _ _ _ _ _ _ _ _ hC hN hB hO hR hT q.2.2.2⟩) h, by
  intro cx i o h
  dsimp only at h
  split at h
  · next ha =>
    obtain ⟨o1, h1, h⟩ := Option.bind_eq_some_iff.mp h
    split at h
    · next hb =>
      obtain ⟨q, h2, h⟩ := Option.bind_eq_some_iff.mp h
      obtain ⟨r, h3, h⟩ := Option.bind_eq_some_iff.mp h
      obtain ⟨u, h4, h⟩ := Option.bind_eq_some_iff.mp h
      split at h
      · next a b' hh ct hx =>
        split at h
        · next hy =>
          obtain ⟨rfl, rfl, rfl, hct, hk⟩ := hy
          have e' := (Option.some.inj h).symm
          subst e'
          obtain ⟨l1, s1⟩ := b.2.2 cx _ o1 h1
          obtain ⟨l2, s2⟩ := zJump_spec h2
          obtain ⟨i3, len3, hi3, hf3, rfl⟩ := zI1_spec h3
          obtain ⟨l4, s4⟩ := hd.2.2 cx _ u h4
          dsimp only at l1 l2 l4
          refine ⟨by dsimp only; omega, fun C hC env env1 σ N B O R Ts T hs hw hN hB hO kt => ?_⟩
          dsimp only at hN hB hO kt
          have go : zRun C cx R T i.1 env1 [] σ := (s1 C hC env env1 σ _ _ _ R _ T hs hw (fun e' e1' σ'' a1 a2 a3 => by
              have z := s2 C hC R T e1' σ'' (fun t ht => (hN e' e1' σ'' a1 a2 a3).2 t (List.mem_append_left _ ht))
              refine ⟨fun hf => z.1 (by dsimp only; rw [hf]; rfl), fun t ht => ?_⟩
              have hne : (o1.1.2.1 || !o1.1.2.2.isEmpty) = true := by
                cases hx : o1.1.2.2 with
                | nil => rw [hx] at ht; cases ht
                | cons => simp
              exact zAll_spec hC hb (z.1 hne) t ht) (fun e' e1' σ'' a1 a2 a3 t ht => hB e' e1' σ'' a1 a2 a3 t (List.mem_append_left _ ht)) (fun e' e1' σ'' a1 a2 a3 t ht => hO e' e1' σ'' a1 a2 a3 t (List.mem_append_left _ ht)) (fun q' e1' v σ'' a1 a2 a3 a4 => by
              unfold zThr
              rw [hx]
              dsimp only
              rw [if_pos ⟨a1, a2⟩]
              have he1 : e1'[0]? = env1[0]? ∧ e1'.length = env1.length := by
                rcases a3 with h | h
                · rw [hx] at h; cases h
                · exact h
              have hl : e1'.length = env1.length := he1.2
              have hkp : zKp cx (zSto 3 k v e1') env1 := Or.inr ⟨(zSto_0 hk v e1').trans he1.1, (zSto_len v e1').trans hl⟩
              refine ⟨ci, hct, a4.2.1, a4.1, zRun_step hC hi3 (zIsSt_spec hf3 (by rw [hl, ← hs.1]; simpa using a4.2.2.1) ?_)⟩
              refine (s4 C hC (zHenv k v env) (zSto 3 k v e1') σ'' N B O R Ts T (zSub_Sto ⟨by rw [zKill_len, hs.1, hl], fun i t x hi ht => ?_⟩ 3 k v) a4.2.2.2 (fun e' e1'' σ3 b1 b2 b3 => ?_) (fun e' e1'' σ3 b1 b2 b3 t ht => hB e' e1'' σ3 b1 (b2.tr hkp) b3 t (List.mem_append_right _ ht)) (fun e' e1'' σ3 b1 b2 b3 t ht => hO e' e1'' σ3 b1 (b2.tr hkp) b3 t (List.mem_append_right _ ht)) (fun q' e1'' v' σ3 b1 b2 b3 b4 => kt q' e1'' v' σ3 (by dsimp only at b1; omega) b2 (b3.tr hkp) b4)).1 rfl
              · obtain ⟨z1, z2⟩ := zKill_get 1 env i t x hi ht
                have e0 : i = 0 := by omega
                subst e0
                rw [he1.1]
                exact hs.2 0 t x z1 ht
              · have z := hN e' e1'' σ3 b1 (b2.tr hkp) b3
                exact ⟨z.1, fun t ht => z.2 t (List.mem_append_right _ ht)⟩)).1 rfl
          exact ⟨fun _ => go, zAll_spec hC ha go⟩
        · cases h
      · cases h
    · cases h
  · cases h⟩
