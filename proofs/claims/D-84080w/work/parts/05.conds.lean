/-! labels, pure conditions, general expressions and conditions -/
def zGoto (cx : zCx) (pc : Nat) : Option Nat := match cx.2.2.2.1 pc with
  | some (.goto o, _) => if 0 ≤ (pc : Int) + o then some ((pc : Int) + o).toNat else none
  | _ => none
theorem zGoto_spec {cx : zCx} {pc q : Nat} (h : zGoto cx pc = some q) : ∃ o len, cx.2.2.2.1 pc = some (.goto o, len) ∧ 0 ≤ (pc : Int) + o ∧ q = ((pc : Int) + o).toNat := by
  unfold zGoto at h
  split at h
  · next o len hi =>
    split at h
    · next h0 => exact ⟨o, len, hi, h0, (Option.some.inj h).symm⟩
    · cases h
  · cases h
theorem zRun_goto {C : zCS} (hC : zMono C) {cx : zCx} {R T : zK} {pc q : Nat} {env st : List zTV} {σ : Mem} (h : zGoto cx pc = some q) : zRun C cx R T pc env st σ ↔ zRun C cx R T q env st σ := by
  obtain ⟨o, len, hi, h0, rfl⟩ := zGoto_spec h
  constructor
  · intro k
    have k := zRun_out hC k
    unfold zStp at k
    rw [hi] at k
    exact k.2
  · intro k
    exact zRun_step hC hi ⟨h0, k⟩
/-- the label t is where one comes to from pa by gotos alone -/
def zTh (cx : zCx) : Nat → Nat → Nat → Bool
  | 0, pa, t => pa == t
  | n + 1, pa, t => pa == t || (match zGoto cx pa with
    | some q => zTh cx n q t
    | none => false)
theorem zTh_spec {C : zCS} (hC : zMono C) {cx : zCx} {R T : zK} {env st : List zTV} {σ : Mem} : ∀ (n : Nat) {pa t : Nat}, zTh cx n pa t = true → zRun C cx R T pa env st σ → zRun C cx R T t env st σ
  | 0, pa, t, h, k => by
    have e : pa = t := by simpa [zTh] using h
    exact e ▸ k
  | n + 1, pa, t, h, k => by
    unfold zTh at h
    rcases Bool.or_eq_true _ _ |>.mp h with e | e
    · exact (eq_of_beq e) ▸ k
    · split at e
      · next q hq => exact zTh_spec hC n e ((zRun_goto hC hq).mp k)
      · cases e
def zAll (cx : zCx) (pa : Nat) (X : List Nat) : Bool := X.all (fun t => zTh cx 3 pa t)
theorem zAll_spec {C : zCS} (hC : zMono C) {cx : zCx} {R T : zK} {env st : List zTV} {σ : Mem} {pa : Nat} {X : List Nat} (h : zAll cx pa X = true) (k : zRun C cx R T pa env st σ) : ∀ t ∈ X, zRun C cx R T t env st σ := fun t ht => zTh_spec hC 3 (List.all_eq_true.mp h t ht) k
-- ## comparisons
def zneg : ClassFile.Cond → ClassFile.Cond
  | .eq => .ne | .ne => .eq | .lt => .ge | .ge => .lt | .gt => .le | .le => .gt
def zcb (c : ClassFile.Cond) (x y : Int) : Bool := match c with
  | .eq => decide (x = y) | .ne => !decide (x = y) | .lt => decide (x < y) | .ge => decide (y ≤ x) | .gt => decide (y < x) | .le => decide (x ≤ y)
theorem zcb_spec (c : ClassFile.Cond) (x y : Int) : (zcmp c x y ↔ zcb c x y = true) ∧ (zcmp (zneg c) x y ↔ zcb c x y = false) := by
  cases c <;> simp [zcmp, zcb, zneg] <;> omega
abbrev zJt : Type := Nat × List Nat × List Nat
/-- a jump over one comparison: falls through when it is m -/
def zJc (m : Bool) (pc len : Nat) (off : Int) : Option zJt := if 0 ≤ (pc : Int) + off then some (pc + len, if m then [] else [((pc : Int) + off).toNat], if m then [((pc : Int) + off).toNat] else []) else none
def zMd (m : Bool) (c : ClassFile.Cond) : ClassFile.Cond := if m then zneg c else c
theorem zJc_spec {m : Bool} {pc len : Nat} {off : Int} {j : zJt} (h : zJc m pc len off = some j) {c : ClassFile.Cond} {x y : Int} {k : Nat → Prop} (h1 : zcb c x y = m → k j.1) (h2 : zcb c x y = true → ∀ t ∈ j.2.1, k t) (h3 : zcb c x y = false → ∀ t ∈ j.2.2, k t) : zBr (zcmp (zMd m c) x y) pc len off k ∧ pc ≤ j.1 := by
  unfold zJc at h
  split at h
  · next h0 =>
    have e := (Option.some.inj h).symm
    subst e
    refine ⟨?_, Nat.le_add_right _ _⟩
    obtain ⟨a, b⟩ := zcb_spec c x y
    cases m
    · refine ⟨h0, fun q => h2 (a.mp q) _ (by simp), fun q => h1 ?_⟩
      have q' : ¬ zcmp c x y := q
      rw [a] at q'
      simpa using q'
    · refine ⟨h0, fun q => h3 (b.mp q) _ (by simp), fun q => h1 ?_⟩
      have q' : ¬ zcmp (zneg c) x y := q
      rw [b] at q'
      simpa using q'
  · cases h
-- ## pure conditions
abbrev zPCt : Type := (zCx → Bool → Nat → Option zJt) × (List zTV → Mem → Prop) × (List zTV → Mem → Bool)
def zPCok (c : zPCt) : Prop := ∀ cx m pc j, c.1 cx m pc = some j → pc ≤ j.1 ∧ ∀ C, zMono C → ∀ (env env1 st : List zTV) (σ : Mem) (R T : zK), zSub env env1 → c.2.1 env σ →
  (c.2.2 env σ = m → zRun C cx R T j.1 env1 st σ) → (c.2.2 env σ = true → ∀ t ∈ j.2.1, zRun C cx R T t env1 st σ) → (c.2.2 env σ = false → ∀ t ∈ j.2.2, zRun C cx R T t env1 st σ) → zRun C cx R T pc env1 st σ
def zPC : Type := { c : zPCt // zPCok c }
def zCi (cx : zCx) (c : ClassFile.Cond) (m : Bool) (pc : Nat) : Option zJt := match cx.2.2.2.1 pc with
  | some (.if_icmp d o, len) => if d = zMd m c then zJc m pc len o else none
  | _ => none
theorem zCi_spec {C : zCS} (hC : zMono C) {cx : zCx} {R T : zK} {c : ClassFile.Cond} {m : Bool} {pc : Nat} {j : zJt} (h : zCi cx c m pc = some j) : pc ≤ j.1 ∧ ∀ (env st : List zTV) (σ : Mem) (x y : Int), (zcb c x y = m → zRun C cx R T j.1 env st σ) → (zcb c x y = true → ∀ t ∈ j.2.1, zRun C cx R T t env st σ) → (zcb c x y = false → ∀ t ∈ j.2.2, zRun C cx R T t env st σ) → zRun C cx R T pc env ((1, y) :: (1, x) :: st) σ := by
  unfold zCi at h
  split at h
  · next d o len hi =>
    split at h
    · next hd =>
      subst hd
      refine ⟨(zJc_spec h (c := c) (x := 0) (y := 0) (k := fun _ => True) (fun _ => trivial) (fun _ _ _ => trivial) (fun _ _ _ => trivial)).2, fun env st σ x y h1 h2 h3 => zRun_step hC hi ?_⟩
      exact ⟨rfl, rfl, (zJc_spec h h1 h2 h3).1⟩
    · cases h
  · cases h
def zC0 (cx : zCx) (c : ClassFile.Cond) (m : Bool) (pc : Nat) : Option zJt := match cx.2.2.2.1 pc with
  | some (.ifCond d o, len) => if d = zMd m c then zJc m pc len o else none
  | _ => none
theorem zC0_spec {C : zCS} (hC : zMono C) {cx : zCx} {R T : zK} {c : ClassFile.Cond} {m : Bool} {pc : Nat} {j : zJt} (h : zC0 cx c m pc = some j) : pc ≤ j.1 ∧ ∀ (env st : List zTV) (σ : Mem) (x : Int), (zcb c x 0 = m → zRun C cx R T j.1 env st σ) → (zcb c x 0 = true → ∀ t ∈ j.2.1, zRun C cx R T t env st σ) → (zcb c x 0 = false → ∀ t ∈ j.2.2, zRun C cx R T t env st σ) → zRun C cx R T pc env ((1, x) :: st) σ := by
  unfold zC0 at h
  split at h
  · next d o len hi =>
    split at h
    · next hd =>
      subst hd
      refine ⟨(zJc_spec h (c := c) (x := 0) (y := 0) (k := fun _ => True) (fun _ => trivial) (fun _ _ _ => trivial) (fun _ _ _ => trivial)).2, fun env st σ x h1 h2 h3 => zRun_step hC hi ?_⟩
      exact ⟨rfl, (zJc_spec h h1 h2 h3).1⟩
    · cases h
  · cases h
/-- lcmp and its jump -/
theorem zlc (c : ClassFile.Cond) (x y : Int) : zcb c (lCmp x y) 0 = zcb c x y := by
  unfold lCmp
  by_cases h1 : x < y
  · rw [if_pos h1]; cases c <;> simp [zcb] <;> omega
  · rw [if_neg h1]
    by_cases h2 : x = y
    · rw [if_pos h2]; cases c <;> simp [zcb] <;> omega
    · rw [if_neg h2]; cases c <;> simp [zcb] <;> omega
def zCl (cx : zCx) (c : ClassFile.Cond) (m : Bool) (pc : Nat) : Option zJt := (zI1 cx pc (fun i => decide (i = .lcmp))).bind (zC0 cx c m)
theorem zCl_spec {C : zCS} (hC : zMono C) {cx : zCx} {R T : zK} {c : ClassFile.Cond} {m : Bool} {pc : Nat} {j : zJt} (h : zCl cx c m pc = some j) : pc ≤ j.1 ∧ ∀ (env st : List zTV) (σ : Mem) (x y : Int), (zcb c x y = m → zRun C cx R T j.1 env st σ) → (zcb c x y = true → ∀ t ∈ j.2.1, zRun C cx R T t env st σ) → (zcb c x y = false → ∀ t ∈ j.2.2, zRun C cx R T t env st σ) → zRun C cx R T pc env ((2, y) :: (2, x) :: st) σ := by
  obtain ⟨q, h1, h2⟩ := Option.bind_eq_some_iff.mp h
  obtain ⟨i, len, hi, hf, rfl⟩ := zI1_spec h1
  cases of_decide_eq_true hf
  obtain ⟨l2, s2⟩ := zC0_spec (R := R) (T := T) hC h2
  refine ⟨Nat.le_trans (Nat.le_add_right _ _) l2, fun env st σ x y a1 a2 a3 => zRun_step hC hi ⟨rfl, rfl, s2 env st σ _ ?_ ?_ ?_⟩⟩ <;> rw [zlc]
  · exact a1
  · exact a2
  · exact a3
/-- references -/
def zCa (cx : zCx) (e : Bool) (m : Bool) (pc : Nat) : Option zJt := match cx.2.2.2.1 pc with
  | some (.if_acmp .eq o, len) => if e = !m then zJc m pc len o else none
  | some (.if_acmp .ne o, len) => if e = m then zJc m pc len o else none
  | _ => none
def zce (e : Bool) : ClassFile.Cond := if e then .eq else .ne
theorem zCa_spec {C : zCS} (hC : zMono C) {cx : zCx} {R T : zK} {e : Bool} {m : Bool} {pc : Nat} {j : zJt} (h : zCa cx e m pc = some j) : pc ≤ j.1 ∧ ∀ (env st : List zTV) (σ : Mem) (x y : Int), (x = 0 ∨ 5 ≤ x) → (y = 0 ∨ 5 ≤ y) → (zcb (zce e) x y = m → zRun C cx R T j.1 env st σ) → (zcb (zce e) x y = true → ∀ t ∈ j.2.1, zRun C cx R T t env st σ) → (zcb (zce e) x y = false → ∀ t ∈ j.2.2, zRun C cx R T t env st σ) → zRun C cx R T pc env ((3, y) :: (3, x) :: st) σ := by
  unfold zCa at h
  split at h
  · next o len hi =>
    split at h
    · next hd =>
      subst hd
      refine ⟨(zJc_spec h (c := .eq) (x := 0) (y := 0) (k := fun _ => True) (fun _ => trivial) (fun _ _ _ => trivial) (fun _ _ _ => trivial)).2, fun env st σ x y hx hy h1 h2 h3 => zRun_step hC hi ?_⟩
      have z := (zJc_spec h h1 h2 h3).1
      refine ⟨rfl, rfl, hx, hy, ?_⟩
      cases m <;> exact z
    · cases h
  · next o len hi =>
    split at h
    · next hd =>
      subst hd
      refine ⟨(zJc_spec h (c := .eq) (x := 0) (y := 0) (k := fun _ => True) (fun _ => trivial) (fun _ _ _ => trivial) (fun _ _ _ => trivial)).2, fun env st σ x y hx hy h1 h2 h3 => zRun_step hC hi ?_⟩
      have z := (zJc_spec h h1 h2 h3).1
      refine ⟨rfl, rfl, hx, hy, ?_⟩
      cases e <;> exact z
    · cases h
  · cases h
def zCn (cx : zCx) (e : Bool) (m : Bool) (pc : Nat) : Option zJt := match cx.2.2.2.1 pc with
  | some (.ifnull o, len) => if e = !m then zJc m pc len o else none
  | some (.ifnonnull o, len) => if e = m then zJc m pc len o else none
  | _ => none
theorem zCn_spec {C : zCS} (hC : zMono C) {cx : zCx} {R T : zK} {e : Bool} {m : Bool} {pc : Nat} {j : zJt} (h : zCn cx e m pc = some j) : pc ≤ j.1 ∧ ∀ (env st : List zTV) (σ : Mem) (x : Int), (zcb (zce e) x 0 = m → zRun C cx R T j.1 env st σ) → (zcb (zce e) x 0 = true → ∀ t ∈ j.2.1, zRun C cx R T t env st σ) → (zcb (zce e) x 0 = false → ∀ t ∈ j.2.2, zRun C cx R T t env st σ) → zRun C cx R T pc env ((3, x) :: st) σ := by
  unfold zCn at h
  split at h
  · next o len hi =>
    split at h
    · next hd =>
      subst hd
      refine ⟨(zJc_spec h (c := .eq) (x := 0) (y := 0) (k := fun _ => True) (fun _ => trivial) (fun _ _ _ => trivial) (fun _ _ _ => trivial)).2, fun env st σ x h1 h2 h3 => zRun_step hC hi ?_⟩
      have z := (zJc_spec h h1 h2 h3).1
      refine ⟨rfl, ?_⟩
      cases m <;> exact z
    · cases h
  · next o len hi =>
    split at h
    · next hd =>
      subst hd
      refine ⟨(zJc_spec h (c := .eq) (x := 0) (y := 0) (k := fun _ => True) (fun _ => trivial) (fun _ _ _ => trivial) (fun _ _ _ => trivial)).2, fun env st σ x h1 h2 h3 => zRun_step hC hi ?_⟩
      have z := (zJc_spec h h1 h2 h3).1
      refine ⟨rfl, ?_⟩
      cases e <;> exact z
    · cases h
  · cases h
