/-! structured code: expressions and conditions, each with what it checks of the bytecode, what it means, and that the two agree -/
def zLe (C C' : zCS) : Prop := ∀ (y : Nat) (as : List Int) (σ : Mem) (R R' T T' : zK), (∀ v σ, R v σ → R' v σ) → (∀ v σ, T v σ → T' v σ) → C y as σ R T → C' y as σ R' T'
def zSub (env env1 : List zTV) : Prop := env.length = env1.length ∧ ∀ (i t : Nat) (x : Int), env[i]? = some (t, x) → t ≠ 0 → env1[i]? = some (t, x)
theorem zSub.rf (env : List zTV) : zSub env env := ⟨rfl, fun _ _ _ h _ => h⟩
theorem zLd_sub {t i : Nat} {env env1 : List zTV} {k : Int → Prop} (hs : zSub env env1) (ht : t ≠ 0) : zLd t i env k → zLd t i env1 k := by
  unfold zLd
  split
  · next a x h =>
    rintro ⟨rfl, hk⟩
    rw [hs.2 i _ x h ht]
    exact ⟨rfl, hk⟩
  · exact fun h => h.elim
theorem zRun_step {C : zCS} (hC : zMono C) {cx : zCx} {R T : zK} {pc len : Nat} {i : Instr} {env st : List zTV} {σ : Mem} (hi : cx.2.2.2.1 pc = some (i, len)) (h : zIns C cx R T (zRun C cx R T) pc len env st σ i) : zRun C cx R T pc env st σ := by
  refine zRun_in hC ?_
  unfold zStp
  rw [hi]
  exact h
-- ## what single instructions are
def zI1 (cx : zCx) (pc : Nat) (f : Instr → Bool) : Option Nat := match cx.2.2.2.1 pc with
  | some (i, len) => if f i = true ∧ 0 < len then some (pc + len) else none
  | none => none
theorem zI1_spec {cx : zCx} {pc pc' : Nat} {f : Instr → Bool} (h : zI1 cx pc f = some pc') : ∃ i len, cx.2.2.2.1 pc = some (i, len) ∧ f i = true ∧ pc' = pc + len := by
  unfold zI1 at h
  split at h
  · next i len hi =>
    split at h
    · next hf => exact ⟨i, len, hi, hf.1, (Option.some.inj h).symm⟩
    · cases h
  · cases h
theorem zI1_pos {cx : zCx} {pc pc' : Nat} {f : Instr → Bool} (h : zI1 cx pc f = some pc') : pc < pc' := by
  unfold zI1 at h
  split at h
  · split at h
    · next hf => have := Option.some.inj h; omega
    · cases h
  · cases h
-- ## pure expressions
abbrev zPt : Type := (zCx → Nat → Option Nat) × Nat × (List zTV → Mem → Prop) × (List zTV → Mem → Int)
def zPok (e : zPt) : Prop := ∀ cx pc pc', e.1 cx pc = some pc' → pc ≤ pc' ∧ ∀ C, zMono C → ∀ (env env1 st : List zTV) (σ : Mem) (R T : zK), zSub env env1 → e.2.2.1 env σ → zRun C cx R T pc' env1 ((e.2.1, e.2.2.2 env σ) :: st) σ → zRun C cx R T pc env1 st σ
def zPE : Type := { e : zPt // zPok e }
/-- an instruction that takes one value off and lays one: its check, the tags, when it goes well, its value -/
abbrev zO1t : Type := (zCx → Instr → Bool) × Nat × Nat × (Int → Mem → Prop) × (Int → Mem → Int)
def zO1ok (o : zO1t) : Prop := ∀ (cx : zCx) (i : Instr), o.1 cx i = true → ∀ (C : zCS) (R T : zK) (go : zGo) (pc len : Nat) (env st : List zTV) (σ : Mem) (x : Int), o.2.2.2.1 x σ → go (pc + len) env ((o.2.2.1, o.2.2.2.2 x σ) :: st) σ → zIns C cx R T go pc len env ((o.2.1, x) :: st) σ i
def zO1 : Type := { o : zO1t // zO1ok o }
abbrev zO2t : Type := (zCx → Instr → Bool) × (Nat × Nat) × Nat × (Int → Int → Mem → Prop) × (Int → Int → Mem → Int)
def zO2ok (o : zO2t) : Prop := ∀ (cx : zCx) (i : Instr), o.1 cx i = true → ∀ (C : zCS) (R T : zK) (go : zGo) (pc len : Nat) (env st : List zTV) (σ : Mem) (x y : Int), o.2.2.2.1 x y σ → go (pc + len) env ((o.2.2.1, o.2.2.2.2 x y σ) :: st) σ → zIns C cx R T go pc len env ((o.2.1.2, y) :: (o.2.1.1, x) :: st) σ i
def zO2 : Type := { o : zO2t // zO2ok o }
def zNo1 : Int → Mem → Prop := fun _ _ => True
def zNo2 : Int → Int → Mem → Prop := fun _ _ _ => True
-- one operand
def oNeg : zO1 := ⟨(fun _ i => decide (i = .ineg), 1, 1, zNo1, fun x _ => w32 (-x)), by
  intro cx i h C R T go pc len env st σ x _ k; cases of_decide_eq_true h; exact ⟨rfl, k⟩⟩
def oLneg : zO1 := ⟨(fun _ i => decide (i = .lneg), 2, 2, zNo1, fun x _ => w64 (-x)), by
  intro cx i h C R T go pc len env st σ x _ k; cases of_decide_eq_true h; exact ⟨rfl, k⟩⟩
def oI2l : zO1 := ⟨(fun _ i => decide (i = .i2l), 1, 2, zNo1, fun x _ => x), by
  intro cx i h C R T go pc len env st σ x _ k; cases of_decide_eq_true h; exact ⟨rfl, k⟩⟩
def oL2i : zO1 := ⟨(fun _ i => decide (i = .l2i), 2, 1, zNo1, fun x _ => w32 x), by
  intro cx i h C R T go pc len env st σ x _ k; cases of_decide_eq_true h; exact ⟨rfl, k⟩⟩
def oI2b : zO1 := ⟨(fun _ i => decide (i = .i2b), 1, 1, zNo1, fun x _ => w8 x), by
  intro cx i h C R T go pc len env st σ x _ k; cases of_decide_eq_true h; exact ⟨rfl, k⟩⟩
def oAlen : zO1 := ⟨(fun _ i => decide (i = .arraylength), 3, 1, fun a σ => 0 < a ∧ (zSh σ a.toNat).1 = 1, fun a σ => (zSh σ a.toNat).2), by
  intro cx i h C R T go pc len env st σ x ho k; cases of_decide_eq_true h; exact ⟨rfl, ho.1, ho.2, k⟩⟩
def oGf (ci f t : Nat) : zO1 := ⟨(fun cx i => match i with
    | .getfield k => (match tField cx.1 k with
      | some (a, b, c, _) => decide (a = ci ∧ b = f ∧ c = t)
      | none => false)
    | _ => false, 3, zTag t, fun o σ => 0 < o ∧ zSh σ o.toNat = (5, ci), fun o σ => σ o.toNat f), by
  intro cx i h C R T go pc len env st σ x ho k
  dsimp only at h
  split at h
  · split at h
    · next a b c d hf =>
      obtain ⟨rfl, rfl, rfl⟩ := of_decide_eq_true h
      exact ⟨rfl, _, _, _, _, hf, ho.1, ho.2, k⟩
    · cases h
  · cases h⟩
-- two operands
def oA2 (j : Instr) (f : Int → Int → Int) (hj : ∀ (C : zCS) (cx : zCx) (R T : zK) (go : zGo) (pc len : Nat) (env st : List zTV) (σ : Mem) (x y : Int), go (pc + len) env ((1, f x y) :: st) σ → zIns C cx R T go pc len env ((1, y) :: (1, x) :: st) σ j) : zO2 :=
  ⟨(fun _ i => decide (i = j), (1, 1), 1, zNo2, fun x y _ => f x y), by
  intro cx i h C R T go pc len env st σ x y _ k; cases of_decide_eq_true h; exact hj _ _ _ _ _ _ _ _ _ _ _ _ k⟩
def oL2 (j : Instr) (f : Int → Int → Int) (hj : ∀ (C : zCS) (cx : zCx) (R T : zK) (go : zGo) (pc len : Nat) (env st : List zTV) (σ : Mem) (x y : Int), go (pc + len) env ((2, f x y) :: st) σ → zIns C cx R T go pc len env ((2, y) :: (2, x) :: st) σ j) : zO2 :=
  ⟨(fun _ i => decide (i = j), (2, 2), 2, zNo2, fun x y _ => f x y), by
  intro cx i h C R T go pc len env st σ x y _ k; cases of_decide_eq_true h; exact hj _ _ _ _ _ _ _ _ _ _ _ _ k⟩
def oAdd : zO2 := oA2 .iadd (fun x y => w32 (x + y)) fun _ _ _ _ _ _ _ _ _ _ _ _ k => ⟨rfl, rfl, k⟩
def oSub : zO2 := oA2 .isub (fun x y => w32 (x - y)) fun _ _ _ _ _ _ _ _ _ _ _ _ k => ⟨rfl, rfl, k⟩
def oMul : zO2 := oA2 .imul (fun x y => w32 (x * y)) fun _ _ _ _ _ _ _ _ _ _ _ _ k => ⟨rfl, rfl, k⟩
def oAnd : zO2 := oA2 .iand iAnd fun _ _ _ _ _ _ _ _ _ _ _ _ k => ⟨rfl, rfl, k⟩
def oOr : zO2 := oA2 .ior iOr fun _ _ _ _ _ _ _ _ _ _ _ _ k => ⟨rfl, rfl, k⟩
def oXor : zO2 := oA2 .ixor iXor fun _ _ _ _ _ _ _ _ _ _ _ _ k => ⟨rfl, rfl, k⟩
def oShl : zO2 := oA2 .ishl iShl fun _ _ _ _ _ _ _ _ _ _ _ _ k => ⟨rfl, rfl, k⟩
def oShr : zO2 := oA2 .ishr iShr fun _ _ _ _ _ _ _ _ _ _ _ _ k => ⟨rfl, rfl, k⟩
def oUshr : zO2 := oA2 .iushr iUshr fun _ _ _ _ _ _ _ _ _ _ _ _ k => ⟨rfl, rfl, k⟩
def oLadd : zO2 := oL2 .ladd (fun x y => w64 (x + y)) fun _ _ _ _ _ _ _ _ _ _ _ _ k => ⟨rfl, rfl, k⟩
def oLsub : zO2 := oL2 .lsub (fun x y => w64 (x - y)) fun _ _ _ _ _ _ _ _ _ _ _ _ k => ⟨rfl, rfl, k⟩
def oLmul : zO2 := oL2 .lmul (fun x y => w64 (x * y)) fun _ _ _ _ _ _ _ _ _ _ _ _ k => ⟨rfl, rfl, k⟩
def oLand : zO2 := oL2 .land lAnd fun _ _ _ _ _ _ _ _ _ _ _ _ k => ⟨rfl, rfl, k⟩
def oLor : zO2 := oL2 .lor lOr fun _ _ _ _ _ _ _ _ _ _ _ _ k => ⟨rfl, rfl, k⟩
def oLshl : zO2 := ⟨(fun _ i => decide (i = .lshl), (2, 1), 2, zNo2, fun x y _ => lShl x y), by
  intro cx i h C R T go pc len env st σ x y _ k; cases of_decide_eq_true h; exact ⟨rfl, rfl, k⟩⟩
def oLshr : zO2 := ⟨(fun _ i => decide (i = .lshr), (2, 1), 2, zNo2, fun x y _ => lShr x y), by
  intro cx i h C R T go pc len env st σ x y _ k; cases of_decide_eq_true h; exact ⟨rfl, rfl, k⟩⟩
def oDiv : zO2 := ⟨(fun _ i => decide (i = .idiv), (1, 1), 1, fun _ y _ => y ≠ 0, fun x y _ => w32 (x.tdiv y)), by
  intro cx i h C R T go pc len env st σ x y ho k; cases of_decide_eq_true h; exact ⟨rfl, rfl, ho, k⟩⟩
def oRem : zO2 := ⟨(fun _ i => decide (i = .irem), (1, 1), 1, fun _ y _ => y ≠ 0, fun x y _ => x.tmod y), by
  intro cx i h C R T go pc len env st σ x y ho k; cases of_decide_eq_true h; exact ⟨rfl, rfl, ho, k⟩⟩
def oLdiv : zO2 := ⟨(fun _ i => decide (i = .ldiv), (2, 2), 2, fun _ y _ => y ≠ 0, fun x y _ => w64 (x.tdiv y)), by
  intro cx i h C R T go pc len env st σ x y ho k; cases of_decide_eq_true h; exact ⟨rfl, rfl, ho, k⟩⟩
def oLrem : zO2 := ⟨(fun _ i => decide (i = .lrem), (2, 2), 2, fun _ y _ => y ≠ 0, fun x y _ => x.tmod y), by
  intro cx i h C R T go pc len env st σ x y ho k; cases of_decide_eq_true h; exact ⟨rfl, rfl, ho, k⟩⟩
def oIald : zO2 := ⟨(fun _ i => decide (i = .iaload), (3, 1), 1, fun a i σ => 0 < a ∧ (zSh σ a.toNat).1 = 1 ∧ zIn i (zSh σ a.toNat).2, fun a i σ => σ a.toNat i.toNat), by
  intro cx i h C R T go pc len env st σ x y ho k; cases of_decide_eq_true h; exact ⟨rfl, rfl, ho.1, ho.2.1, ho.2.2, k⟩⟩
def oLald : zO2 := ⟨(fun _ i => decide (i = .laload), (3, 1), 2, fun a i σ => 0 < a ∧ (zSh σ a.toNat).1 = 4 ∧ zIn i (zSh σ a.toNat).2, fun a i σ => σ a.toNat i.toNat), by
  intro cx i h C R T go pc len env st σ x y ho k; cases of_decide_eq_true h; exact ⟨rfl, rfl, ho.1, ho.2.1, ho.2.2, k⟩⟩
def oBald : zO2 := ⟨(fun _ i => decide (i = .baload), (3, 1), 1, fun a i σ => 0 < a ∧ (zSh σ a.toNat).1 = 2 ∧ zIn i (zSh σ a.toNat).2, fun a i σ => σ a.toNat i.toNat), by
  intro cx i h C R T go pc len env st σ x y ho k; cases of_decide_eq_true h; exact ⟨rfl, rfl, ho.1, ho.2.2, Or.inl ⟨ho.2.1, fun _ => k⟩⟩⟩
def oZald : zO2 := ⟨(fun _ i => decide (i = .baload), (3, 1), 1, fun a i σ => 0 < a ∧ (zSh σ a.toNat).1 = 3 ∧ zIn i (zSh σ a.toNat).2, fun a i σ => σ a.toNat i.toNat), by
  intro cx i h C R T go pc len env st σ x y ho k; cases of_decide_eq_true h; exact ⟨rfl, rfl, ho.1, ho.2.2, Or.inr ⟨ho.2.1, fun _ => k⟩⟩⟩
-- pure: constants, locals, operators
def zKi (cx : zCx) (n : Int) (i : Instr) : Bool := match i with
  | .iconst v => decide (v = n ∧ -128 ≤ v ∧ v < 128)
  | .bipush v => decide (v = n ∧ -128 ≤ v ∧ v < 128)
  | .sipush v => decide (v = n ∧ -32768 ≤ v ∧ v < 32768)
  | .ldc k => decide (tInt cx.1 k = some n)
  | .ldc_w k => decide (tInt cx.1 k = some n)
  | _ => false
theorem zKi_spec {C : zCS} {cx : zCx} {R T : zK} {go : zGo} {pc len : Nat} {env st : List zTV} {σ : Mem} {i : Instr} {n : Int} (h : zKi cx n i = true) (k : go (pc + len) env ((1, n) :: st) σ) : zIns C cx R T go pc len env st σ i := by
  unfold zKi at h
  split at h
  · obtain ⟨rfl, a, b⟩ := of_decide_eq_true h; exact ⟨⟨a, b⟩, k⟩
  · obtain ⟨rfl, a, b⟩ := of_decide_eq_true h; exact ⟨⟨a, b⟩, k⟩
  · obtain ⟨rfl, a, b⟩ := of_decide_eq_true h; exact ⟨⟨a, b⟩, k⟩
  · exact ⟨n, of_decide_eq_true h, k⟩
  · exact ⟨n, of_decide_eq_true h, k⟩
  · cases h
def pI (n : Int) : zPE := ⟨(fun cx pc => zI1 cx pc (zKi cx n), 1, fun _ _ => True, fun _ _ => n), by
  intro cx pc pc' h
  obtain ⟨i, len, hi, hf, rfl⟩ := zI1_spec h
  refine ⟨Nat.le_add_right _ _, fun C hC env env1 st σ R T hs _ k => zRun_step hC hi (zKi_spec hf k)⟩⟩
def zKl (cx : zCx) (n : Int) (i : Instr) : Bool := match i with
  | .lconst v => decide (((v : Nat) : Int) = n)
  | .ldc2_w k => decide (tLong cx.1 k = some n)
  | _ => false
def pJ (n : Int) : zPE := ⟨(fun cx pc => zI1 cx pc (zKl cx n), 2, fun _ _ => True, fun _ _ => n), by
  intro cx pc pc' h
  obtain ⟨i, len, hi, hf, rfl⟩ := zI1_spec h
  refine ⟨Nat.le_add_right _ _, fun C hC env env1 st σ R T hs _ k => zRun_step hC hi ?_⟩
  unfold zKl at hf
  split at hf
  · have e := of_decide_eq_true hf; subst e; exact k
  · exact ⟨n, of_decide_eq_true hf, k⟩
  · cases hf⟩
def zIsLd (t k : Nat) (i : Instr) : Bool := match i with
  | .iload j => decide (t = 1 ∧ j = k) | .iload_n j => decide (t = 1 ∧ (j : Nat) = k)
  | .lload j => decide (t = 2 ∧ j = k) | .lload_n j => decide (t = 2 ∧ (j : Nat) = k)
  | .aload j => decide (t = 3 ∧ j = k) | .aload_n j => decide (t = 3 ∧ (j : Nat) = k)
  | _ => false
def zHas (t k : Nat) (env : List zTV) : Prop := ∃ x, env[k]? = some (t, x)
def zGet (k : Nat) (env : List zTV) : Int := (env.getD k (0, 0)).2
def pL (t k : Nat) : zPE := ⟨(fun cx pc => zI1 cx pc (zIsLd t k), t, fun env _ => zHas t k env, fun env _ => zGet k env), by
  intro cx pc pc' h
  obtain ⟨i, len, hi, hf, rfl⟩ := zI1_spec h
  refine ⟨Nat.le_add_right _ _, fun C hC env env1 st σ R T hs ho kk => zRun_step hC hi ?_⟩
  obtain ⟨x, hx⟩ := ho
  have e : zGet k env = x := by simp [zGet, List.getD, hx]
  dsimp only at kk
  rw [e] at kk
  unfold zIsLd at hf
  split at hf <;> first
    | (obtain ⟨rfl, rfl⟩ := of_decide_eq_true hf; exact zLd_sub hs (by decide) (by unfold zLd; rw [hx]; exact ⟨rfl, kk⟩))
    | cases hf⟩
def pN : zPE := ⟨(fun cx pc => zI1 cx pc (fun i => match i with
    | .getstatic _ => false
    | _ => false), 3, fun _ _ => False, fun _ _ => 0), by
  intro cx pc pc' h
  obtain ⟨i, len, hi, hf, rfl⟩ := zI1_spec h
  exact ⟨Nat.le_add_right _ _, fun C hC env env1 st σ R T hs ho kk => ho.elim⟩⟩
def pS (o : Nat) : zPE := ⟨(fun cx pc => zI1 cx pc (fun i => match i with
    | .getstatic k => decide (tStat cx.1 k = some o)
    | _ => false), 3, fun _ _ => True, fun _ _ => (o : Int)), by
  intro cx pc pc' h
  obtain ⟨i, len, hi, hf, rfl⟩ := zI1_spec h
  refine ⟨Nat.le_add_right _ _, fun C hC env env1 st σ R T hs ho kk => zRun_step hC hi ?_⟩
  split at hf
  · exact ⟨o, of_decide_eq_true hf, kk⟩
  · cases hf⟩
def p1 (o : zO1) (a : zPE) : zPE := ⟨(fun cx pc => if a.1.2.1 = o.1.2.1 then (a.1.1 cx pc).bind (fun q => zI1 cx q (o.1.1 cx)) else none, o.1.2.2.1, fun env σ => a.1.2.2.1 env σ ∧ o.1.2.2.2.1 (a.1.2.2.2 env σ) σ, fun env σ => o.1.2.2.2.2 (a.1.2.2.2 env σ) σ), by
  intro cx pc pc' h
  dsimp only at h
  split at h
  · next ht =>
    obtain ⟨q, h1, h2⟩ := Option.bind_eq_some_iff.mp h
    obtain ⟨i, len, hi, hf, rfl⟩ := zI1_spec h2
    obtain ⟨l1, s1⟩ := a.2 cx pc q h1
    refine ⟨Nat.le_trans l1 (Nat.le_add_right _ _), fun C hC env env1 st σ R T hs ho kk => s1 C hC env env1 st σ R T hs ho.1 (zRun_step hC hi ?_)⟩
    rw [ht]
    exact o.2 cx i hf _ _ _ _ _ _ _ _ _ _ ho.2 kk
  · cases h⟩
def p2 (o : zO2) (a b : zPE) : zPE := ⟨(fun cx pc => if a.1.2.1 = o.1.2.1.1 ∧ b.1.2.1 = o.1.2.1.2 then (a.1.1 cx pc).bind (fun q => (b.1.1 cx q).bind (fun r => zI1 cx r (o.1.1 cx))) else none, o.1.2.2.1, fun env σ => a.1.2.2.1 env σ ∧ b.1.2.2.1 env σ ∧ o.1.2.2.2.1 (a.1.2.2.2 env σ) (b.1.2.2.2 env σ) σ, fun env σ => o.1.2.2.2.2 (a.1.2.2.2 env σ) (b.1.2.2.2 env σ) σ), by
  intro cx pc pc' h
  dsimp only at h
  split at h
  · next ht =>
    obtain ⟨q, h1, h2⟩ := Option.bind_eq_some_iff.mp h
    obtain ⟨r, h3, h4⟩ := Option.bind_eq_some_iff.mp h2
    obtain ⟨i, len, hi, hf, rfl⟩ := zI1_spec h4
    obtain ⟨l1, s1⟩ := a.2 cx pc q h1
    obtain ⟨l2, s2⟩ := b.2 cx q r h3
    refine ⟨Nat.le_trans l1 (Nat.le_trans l2 (Nat.le_add_right _ _)), fun C hC env env1 st σ R T hs ho kk => s1 C hC env env1 st σ R T hs ho.1 (s2 C hC env env1 _ σ R T hs ho.2.1 (zRun_step hC hi ?_))⟩
    rw [ht.1, ht.2]
    exact o.2 cx i hf _ _ _ _ _ _ _ _ _ _ _ ho.2.2 kk
  · cases h⟩
