def b2i (b : Bool) : Int := if b = true then 1 else 0
-- ## pure conditions
def kI (c : ClassFile.Cond) (a b : zPE) : zPC := ⟨(fun cx m pc => if a.1.2.1 = 1 ∧ b.1.2.1 = 1 then (a.1.1 cx pc).bind (fun q => (b.1.1 cx q).bind (zCi cx c m)) else none, fun env σ => a.1.2.2.1 env σ ∧ b.1.2.2.1 env σ, fun env σ => zcb c (a.1.2.2.2 env σ) (b.1.2.2.2 env σ)), by
  intro cx m pc j h
  dsimp only at h
  split at h
  · next ht =>
    obtain ⟨q, h1, h2⟩ := Option.bind_eq_some_iff.mp h
    obtain ⟨r, h3, h4⟩ := Option.bind_eq_some_iff.mp h2
    obtain ⟨l1, s1⟩ := a.2 cx pc q h1
    obtain ⟨l2, s2⟩ := b.2 cx q r h3
    have hc : zMono (fun _ _ _ _ _ => False) := fun _ _ _ _ _ _ _ _ _ h => h
    refine ⟨Nat.le_trans l1 (Nat.le_trans l2 (zCi_spec (R := fun _ _ => True) (T := fun _ _ => True) hc h4).1), fun C hC env env1 st σ R T hs ho k1 k2 k3 => s1 C hC env env1 st σ R T hs ho.1 (s2 C hC env env1 _ σ R T hs ho.2 ?_)⟩
    rw [ht.1, ht.2]
    exact (zCi_spec hC h4).2 env1 st σ _ _ k1 k2 k3
  · cases h⟩
def kL (c : ClassFile.Cond) (a b : zPE) : zPC := ⟨(fun cx m pc => if a.1.2.1 = 2 ∧ b.1.2.1 = 2 then (a.1.1 cx pc).bind (fun q => (b.1.1 cx q).bind (zCl cx c m)) else none, fun env σ => a.1.2.2.1 env σ ∧ b.1.2.2.1 env σ, fun env σ => zcb c (a.1.2.2.2 env σ) (b.1.2.2.2 env σ)), by
  intro cx m pc j h
  dsimp only at h
  split at h
  · next ht =>
    obtain ⟨q, h1, h2⟩ := Option.bind_eq_some_iff.mp h
    obtain ⟨r, h3, h4⟩ := Option.bind_eq_some_iff.mp h2
    obtain ⟨l1, s1⟩ := a.2 cx pc q h1
    obtain ⟨l2, s2⟩ := b.2 cx q r h3
    have hc : zMono (fun _ _ _ _ _ => False) := fun _ _ _ _ _ _ _ _ _ h => h
    refine ⟨Nat.le_trans l1 (Nat.le_trans l2 (zCl_spec (R := fun _ _ => True) (T := fun _ _ => True) hc h4).1), fun C hC env env1 st σ R T hs ho k1 k2 k3 => s1 C hC env env1 st σ R T hs ho.1 (s2 C hC env env1 _ σ R T hs ho.2 ?_)⟩
    rw [ht.1, ht.2]
    exact (zCl_spec hC h4).2 env1 st σ _ _ k1 k2 k3
  · cases h⟩
def kA (e : Bool) (a b : zPE) : zPC := ⟨(fun cx m pc => if a.1.2.1 = 3 ∧ b.1.2.1 = 3 then (a.1.1 cx pc).bind (fun q => (b.1.1 cx q).bind (zCa cx e m)) else none, fun env σ => a.1.2.2.1 env σ ∧ b.1.2.2.1 env σ ∧ (a.1.2.2.2 env σ = 0 ∨ 5 ≤ a.1.2.2.2 env σ) ∧ (b.1.2.2.2 env σ = 0 ∨ 5 ≤ b.1.2.2.2 env σ), fun env σ => zcb (zce e) (a.1.2.2.2 env σ) (b.1.2.2.2 env σ)), by
  intro cx m pc j h
  dsimp only at h
  split at h
  · next ht =>
    obtain ⟨q, h1, h2⟩ := Option.bind_eq_some_iff.mp h
    obtain ⟨r, h3, h4⟩ := Option.bind_eq_some_iff.mp h2
    obtain ⟨l1, s1⟩ := a.2 cx pc q h1
    obtain ⟨l2, s2⟩ := b.2 cx q r h3
    have hc : zMono (fun _ _ _ _ _ => False) := fun _ _ _ _ _ _ _ _ _ h => h
    refine ⟨Nat.le_trans l1 (Nat.le_trans l2 (zCa_spec (R := fun _ _ => True) (T := fun _ _ => True) hc h4).1), fun C hC env env1 st σ R T hs ho k1 k2 k3 => s1 C hC env env1 st σ R T hs ho.1 (s2 C hC env env1 _ σ R T hs ho.2.1 ?_)⟩
    rw [ht.1, ht.2]
    exact (zCa_spec hC h4).2 env1 st σ _ _ ho.2.2.1 ho.2.2.2 k1 k2 k3
  · cases h⟩
def k0 (c : ClassFile.Cond) (a : zPE) : zPC := ⟨(fun cx m pc => if a.1.2.1 = 1 then (a.1.1 cx pc).bind (zC0 cx c m) else none, fun env σ => a.1.2.2.1 env σ, fun env σ => zcb c (a.1.2.2.2 env σ) 0), by
  intro cx m pc j h
  dsimp only at h
  split at h
  · next ht =>
    obtain ⟨q, h1, h2⟩ := Option.bind_eq_some_iff.mp h
    obtain ⟨l1, s1⟩ := a.2 cx pc q h1
    have hc : zMono (fun _ _ _ _ _ => False) := fun _ _ _ _ _ _ _ _ _ h => h
    refine ⟨Nat.le_trans l1 (zC0_spec (R := fun _ _ => True) (T := fun _ _ => True) hc h2).1, fun C hC env env1 st σ R T hs ho k1 k2 k3 => s1 C hC env env1 st σ R T hs ho ?_⟩
    rw [ht]
    exact (zC0_spec hC h2).2 env1 st σ _ k1 k2 k3
  · cases h⟩
def kN (e : Bool) (a : zPE) : zPC := ⟨(fun cx m pc => if a.1.2.1 = 3 then (a.1.1 cx pc).bind (zCn cx e m) else none, fun env σ => a.1.2.2.1 env σ, fun env σ => zcb (zce e) (a.1.2.2.2 env σ) 0), by
  intro cx m pc j h
  dsimp only at h
  split at h
  · next ht =>
    obtain ⟨q, h1, h2⟩ := Option.bind_eq_some_iff.mp h
    obtain ⟨l1, s1⟩ := a.2 cx pc q h1
    have hc : zMono (fun _ _ _ _ _ => False) := fun _ _ _ _ _ _ _ _ _ h => h
    refine ⟨Nat.le_trans l1 (zCn_spec (R := fun _ _ => True) (T := fun _ _ => True) hc h2).1, fun C hC env env1 st σ R T hs ho k1 k2 k3 => s1 C hC env env1 st σ R T hs ho ?_⟩
    rw [ht]
    exact (zCn_spec hC h2).2 env1 st σ _ k1 k2 k3
  · cases h⟩
def zJnot (j : zJt) : zJt := (j.1, j.2.2, j.2.1)
def kNot (c : zPC) : zPC := ⟨(fun cx m pc => (c.1.1 cx (!m) pc).map zJnot, c.1.2.1, fun env σ => !c.1.2.2 env σ), by
  intro cx m pc j h
  obtain ⟨j', h1, rfl⟩ := Option.map_eq_some_iff.mp h
  obtain ⟨l1, s1⟩ := c.2 cx (!m) pc j' h1
  refine ⟨l1, fun C hC env env1 st σ R T hs ho k1 k2 k3 => s1 C hC env env1 st σ R T hs ho (fun e => k1 ?_) (fun e => k3 ?_) (fun e => k2 ?_)⟩ <;> dsimp only <;> rw [e] <;> simp⟩
/-- both: p1 is where the second begins -/
def zJand (cx : zCx) (m : Bool) (j1 : zJt) (k : Nat → Option zJt) : Option zJt := if zAll cx j1.1 j1.2.1 = true then (k j1.1).bind (fun j2 => if m = true then some (j2.1, j2.2.1, j1.2.2 ++ j2.2.2) else if zAll cx j2.1 j1.2.2 = true then some j2 else none) else none
def zJor (cx : zCx) (m : Bool) (j1 : zJt) (k : Nat → Option zJt) : Option zJt := if zAll cx j1.1 j1.2.2 = true then (k j1.1).bind (fun j2 => if m = false then some (j2.1, j1.2.1 ++ j2.2.1, j2.2.2) else if zAll cx j2.1 j1.2.1 = true then some j2 else none) else none
theorem zJand_spec {cx : zCx} {m : Bool} {j1 j : zJt} {k : Nat → Option zJt} (h : zJand cx m j1 k = some j) : ∃ j2, k j1.1 = some j2 ∧ j.1 = j2.1 ∧ ∀ C, zMono C → ∀ (R T : zK) (env st : List zTV) (σ : Mem),
    (zRun C cx R T j1.1 env st σ → ∀ t ∈ j1.2.1, zRun C cx R T t env st σ) ∧
    ((m = true → ∀ t ∈ j.2.2, zRun C cx R T t env st σ) → (m = false → zRun C cx R T j.1 env st σ) → ∀ t ∈ j1.2.2, zRun C cx R T t env st σ) ∧
    ((∀ t ∈ j.2.1, zRun C cx R T t env st σ) → ∀ t ∈ j2.2.1, zRun C cx R T t env st σ) ∧ ((∀ t ∈ j.2.2, zRun C cx R T t env st σ) → ∀ t ∈ j2.2.2, zRun C cx R T t env st σ) := by
  unfold zJand at h
  split at h
  · next ha =>
    obtain ⟨j2, h1, h2⟩ := Option.bind_eq_some_iff.mp h
    refine ⟨j2, h1, ?_⟩
    split at h2
    · next hm =>
      have e := (Option.some.inj h2).symm
      subst e
      refine ⟨rfl, fun C hC R T env st σ => ⟨zAll_spec hC ha, fun k1 _ t ht => k1 hm t (List.mem_append_left _ ht), id, fun k1 t ht => k1 t (List.mem_append_right _ ht)⟩⟩
    · next hm =>
      split at h2
      · next hb =>
        have e := (Option.some.inj h2).symm
        subst e
        refine ⟨rfl, fun C hC R T env st σ => ⟨zAll_spec hC ha, fun _ k1 => zAll_spec hC hb (k1 (by simpa using hm)), id, id⟩⟩
      · cases h2
  · cases h
theorem zJor_spec {cx : zCx} {m : Bool} {j1 j : zJt} {k : Nat → Option zJt} (h : zJor cx m j1 k = some j) : ∃ j2, k j1.1 = some j2 ∧ j.1 = j2.1 ∧ ∀ C, zMono C → ∀ (R T : zK) (env st : List zTV) (σ : Mem),
    (zRun C cx R T j1.1 env st σ → ∀ t ∈ j1.2.2, zRun C cx R T t env st σ) ∧
    ((m = false → ∀ t ∈ j.2.1, zRun C cx R T t env st σ) → (m = true → zRun C cx R T j.1 env st σ) → ∀ t ∈ j1.2.1, zRun C cx R T t env st σ) ∧
    ((∀ t ∈ j.2.1, zRun C cx R T t env st σ) → ∀ t ∈ j2.2.1, zRun C cx R T t env st σ) ∧ ((∀ t ∈ j.2.2, zRun C cx R T t env st σ) → ∀ t ∈ j2.2.2, zRun C cx R T t env st σ) := by
  unfold zJor at h
  split at h
  · next ha =>
    obtain ⟨j2, h1, h2⟩ := Option.bind_eq_some_iff.mp h
    refine ⟨j2, h1, ?_⟩
    split at h2
    · next hm =>
      have e := (Option.some.inj h2).symm
      subst e
      refine ⟨rfl, fun C hC R T env st σ => ⟨zAll_spec hC ha, fun k1 _ t ht => k1 hm t (List.mem_append_left _ ht), fun k1 t ht => k1 t (List.mem_append_right _ ht), id⟩⟩
    · next hm =>
      split at h2
      · next hb =>
        have e := (Option.some.inj h2).symm
        subst e
        refine ⟨rfl, fun C hC R T env st σ => ⟨zAll_spec hC ha, fun _ k1 => zAll_spec hC hb (k1 (by simpa using hm)), id, id⟩⟩
      · cases h2
  · cases h
def kAnd (a b : zPC) : zPC := ⟨(fun cx m pc => (a.1.1 cx true pc).bind (fun j1 => zJand cx m j1 (b.1.1 cx m)), fun env σ => a.1.2.1 env σ ∧ (a.1.2.2 env σ = true → b.1.2.1 env σ), fun env σ => a.1.2.2 env σ && b.1.2.2 env σ), by
  intro cx m pc j h
  obtain ⟨j1, h1, h2⟩ := Option.bind_eq_some_iff.mp h
  obtain ⟨j2, h3, e, sp⟩ := zJand_spec h2
  obtain ⟨l1, s1⟩ := a.2 cx true pc j1 h1
  obtain ⟨l2, s2⟩ := b.2 cx m j1.1 j2 h3
  refine ⟨by rw [e]; exact Nat.le_trans l1 l2, fun C hC env env1 st σ R T hs ho k1 k2 k3 => ?_⟩
  obtain ⟨sa, sb, sc, sd⟩ := sp C hC R T env1 st σ
  dsimp only at k1 k2 k3
  have go : a.1.2.2 env σ = true → zRun C cx R T j1.1 env1 st σ := fun ha => s2 C hC env env1 st σ R T hs (ho.2 ha) (fun hb => by rw [← e]; exact k1 (by rw [ha, hb]; rfl)) (fun hb => sc (k2 (by rw [ha, hb]; rfl))) (fun hb => sd (k3 (by rw [ha, hb]; rfl)))
  exact s1 C hC env env1 st σ R T hs ho.1 go (fun ha => sa (go ha)) (fun ha => sb (fun _ => k3 (by rw [ha]; rfl)) (fun hm => k1 (by rw [ha, hm]; rfl)))⟩
def kOr (a b : zPC) : zPC := ⟨(fun cx m pc => (a.1.1 cx false pc).bind (fun j1 => zJor cx m j1 (b.1.1 cx m)), fun env σ => a.1.2.1 env σ ∧ (a.1.2.2 env σ = false → b.1.2.1 env σ), fun env σ => a.1.2.2 env σ || b.1.2.2 env σ), by
  intro cx m pc j h
  obtain ⟨j1, h1, h2⟩ := Option.bind_eq_some_iff.mp h
  obtain ⟨j2, h3, e, sp⟩ := zJor_spec h2
  obtain ⟨l1, s1⟩ := a.2 cx false pc j1 h1
  obtain ⟨l2, s2⟩ := b.2 cx m j1.1 j2 h3
  refine ⟨by rw [e]; exact Nat.le_trans l1 l2, fun C hC env env1 st σ R T hs ho k1 k2 k3 => ?_⟩
  obtain ⟨sa, sb, sc, sd⟩ := sp C hC R T env1 st σ
  dsimp only at k1 k2 k3
  have go : a.1.2.2 env σ = false → zRun C cx R T j1.1 env1 st σ := fun ha => s2 C hC env env1 st σ R T hs (ho.2 ha) (fun hb => by rw [← e]; exact k1 (by rw [ha, hb]; rfl)) (fun hb => sc (k2 (by rw [ha, hb]; rfl))) (fun hb => sd (k3 (by rw [ha, hb]; rfl)))
  exact s1 C hC env env1 st σ R T hs ho.1 go (fun ha => sb (fun _ => k2 (by rw [ha]; rfl)) (fun hm => k1 (by rw [ha, hm]; rfl))) (fun ha => sa (go ha))⟩
/-- c ? a : b -/
def zIteC (cx : zCx) (j : zJt) (a b : Nat → Option Nat) : Option Nat := if zAll cx j.1 j.2.1 = true then (a j.1).bind (fun p => (zGoto cx p).bind (fun L => (zI1 cx p (fun _ => true)).bind (fun q => if zAll cx q j.2.2 = true then (b q).bind (fun r => if zTh cx 3 r L = true then some r else none) else none))) else none
theorem zIteC_spec {cx : zCx} {j : zJt} {a b : Nat → Option Nat} {r : Nat} (h : zIteC cx j a b = some r) : ∃ p q, a j.1 = some p ∧ b q = some r ∧ p ≤ q ∧ ∀ C, zMono C → ∀ (R T : zK) (env st : List zTV) (σ : Mem),
    (zRun C cx R T j.1 env st σ → ∀ t ∈ j.2.1, zRun C cx R T t env st σ) ∧ (zRun C cx R T q env st σ → ∀ t ∈ j.2.2, zRun C cx R T t env st σ) ∧ (zRun C cx R T r env st σ → zRun C cx R T p env st σ) := by
  unfold zIteC at h
  split at h
  · next ha =>
    obtain ⟨p, h1, h⟩ := Option.bind_eq_some_iff.mp h
    obtain ⟨L, h2, h⟩ := Option.bind_eq_some_iff.mp h
    obtain ⟨q, h3, h⟩ := Option.bind_eq_some_iff.mp h
    split at h
    · next hb =>
      obtain ⟨r', h4, h⟩ := Option.bind_eq_some_iff.mp h
      split at h
      · next hc =>
        have e := Option.some.inj h
        subst e
        obtain ⟨i, len, -, -, hq⟩ := zI1_spec h3
        refine ⟨p, q, h1, h4, by omega, fun C hC R T env st σ => ⟨zAll_spec hC ha, zAll_spec hC hb, fun k => (zRun_goto hC h2).mpr (zTh_spec hC 3 hc k)⟩⟩
      · cases h
    · cases h
  · cases h
def pIte (c : zPC) (a b : zPE) : zPE := ⟨(fun cx pc => if b.1.2.1 = a.1.2.1 then (c.1.1 cx true pc).bind (fun j => zIteC cx j (a.1.1 cx) (b.1.1 cx)) else none, a.1.2.1, fun env σ => c.1.2.1 env σ ∧ (c.1.2.2 env σ = true → a.1.2.2.1 env σ) ∧ (c.1.2.2 env σ = false → b.1.2.2.1 env σ), fun env σ => if c.1.2.2 env σ = true then a.1.2.2.2 env σ else b.1.2.2.2 env σ), by
  intro cx pc pc' h
  dsimp only at h
  split at h
  · next ht =>
    obtain ⟨j, h1, h2⟩ := Option.bind_eq_some_iff.mp h
    obtain ⟨p, q, ha, hb, lpq, sp⟩ := zIteC_spec h2
    obtain ⟨l0, s0⟩ := c.2 cx true pc j h1
    obtain ⟨l1, s1⟩ := a.2 cx j.1 p ha
    obtain ⟨l2, s2⟩ := b.2 cx q pc' hb
    refine ⟨by omega, fun C hC env env1 st σ R T hs ho k => ?_⟩
    obtain ⟨o1, o2, o3⟩ := ho
    dsimp only at k
    have ga : c.1.2.2 env σ = true → zRun C cx R T j.1 env1 st σ := fun e => s1 C hC env env1 st σ R T hs (o2 e) ((sp C hC R T _ _ σ).2.2 (by rw [if_pos e] at k; exact k))
    have gb : c.1.2.2 env σ = false → zRun C cx R T q env1 st σ := fun e => s2 C hC env env1 st σ R T hs (o3 e) (by rw [if_neg (by rw [e]; decide)] at k; rw [ht]; exact k)
    exact s0 C hC env env1 st σ R T hs o1 ga (fun e => (sp C hC R T _ _ σ).1 (ga e)) (fun e => (sp C hC R T _ _ σ).2.1 (gb e))
  · cases h⟩
def pB (c : zPC) : zPE := ⟨(fun cx pc => (c.1.1 cx true pc).bind (fun j => zIteC cx j ((pI 1).1.1 cx) ((pI 0).1.1 cx)), 1, fun env σ => c.1.2.1 env σ, fun env σ => b2i (c.1.2.2 env σ)), by
  intro cx pc pc' h
  have z := (pIte c (pI 1) (pI 0)).2 cx pc pc' (by simpa [pIte, pI] using h)
  refine ⟨z.1, fun C hC env env1 st σ R T hs ho k => z.2 C hC env env1 st σ R T hs ⟨ho, fun _ => trivial, fun _ => trivial⟩ ?_⟩
  exact k⟩
