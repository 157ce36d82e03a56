/-! general expressions (with calls) and conditions -/
abbrev zEt : Type := (zCx → Nat → Nat → Option Nat) × Nat × (zCS → List zTV → Mem → zK → zK → Prop)
def zEm (w : zCS → List zTV → Mem → zK → zK → Prop) : Prop := ∀ (C C' : zCS) (env : List zTV) (σ : Mem) (K K' T T' : zK), zLe C C' → (∀ v σ, K v σ → K' v σ) → (∀ v σ, T v σ → T' v σ) → w C env σ K T → w C' env σ K' T'
def zEs (e : zEt) : Prop := ∀ cx d pc pc', e.1 cx d pc = some pc' → pc ≤ pc' ∧ ∀ C, zMono C → ∀ (env env1 st : List zTV) (σ : Mem) (K Te R T : zK), st.length = d → zSub env env1 → e.2.2 C env σ K Te →
  (∀ v σ', K v σ' → zRun C cx R T pc' env1 ((e.2.1, v) :: st) σ') → (∀ q o σ', pc ≤ q → q < pc' → Te o σ' → zThr cx T (zRun C cx R T) q env1 o σ') → zRun C cx R T pc env1 st σ
def zEok (e : zEt) : Prop := zEm e.2.2 ∧ zEs e
def zE : Type := { e : zEt // zEok e }
abbrev zCt : Type := (zCx → Nat → Bool → Nat → Option zJt) × (zCS → List zTV → Mem → (Bool → Mem → Prop) → zK → Prop)
def zCm (w : zCS → List zTV → Mem → (Bool → Mem → Prop) → zK → Prop) : Prop := ∀ (C C' : zCS) (env : List zTV) (σ : Mem) (K K' : Bool → Mem → Prop) (T T' : zK), zLe C C' → (∀ v σ, K v σ → K' v σ) → (∀ v σ, T v σ → T' v σ) → w C env σ K T → w C' env σ K' T'
def zCs (c : zCt) : Prop := ∀ cx d m pc j, c.1 cx d m pc = some j → pc ≤ j.1 ∧ ∀ C, zMono C → ∀ (env env1 st : List zTV) (σ : Mem) (K : Bool → Mem → Prop) (Te R T : zK), st.length = d → zSub env env1 → c.2 C env σ K Te →
  (∀ b σ', K b σ' → (b = m → zRun C cx R T j.1 env1 st σ') ∧ (b = true → ∀ t ∈ j.2.1, zRun C cx R T t env1 st σ') ∧ (b = false → ∀ t ∈ j.2.2, zRun C cx R T t env1 st σ')) → (∀ q o σ', pc ≤ q → q < j.1 → Te o σ' → zThr cx T (zRun C cx R T) q env1 o σ') → zRun C cx R T pc env1 st σ
def zC : Type := { c : zCt // zCm c.2 ∧ zCs c }
def eP (e : zPE) : zE := ⟨(fun cx _ pc => e.1.1 cx pc, e.1.2.1, fun _ env σ K _ => e.1.2.2.1 env σ ∧ K (e.1.2.2.2 env σ) σ), fun _ _ _ _ _ _ _ _ _ hK _ h => ⟨h.1, hK _ _ h.2⟩, by
  intro cx d pc pc' h
  obtain ⟨l1, s1⟩ := e.2 cx pc pc' h
  exact ⟨l1, fun C hC env env1 st σ K Te R T hd hs hw k _ => s1 C hC env env1 st σ R T hs hw.1 (k _ _ hw.2)⟩⟩
def cP (c : zPC) : zC := ⟨(fun cx _ m pc => c.1.1 cx m pc, fun _ env σ K _ => c.1.2.1 env σ ∧ K (c.1.2.2 env σ) σ), fun _ _ _ _ _ _ _ _ _ hK _ h => ⟨h.1, hK _ _ h.2⟩, by
  intro cx d m pc j h
  obtain ⟨l1, s1⟩ := c.2 cx m pc j h
  refine ⟨l1, fun C hC env env1 st σ K Te R T hd hs hw k _ => ?_⟩
  obtain ⟨a, b, c⟩ := k _ _ hw.2
  exact s1 C hC env env1 st σ R T hs hw.1 a b c⟩
def e1 (o : zO1) (a : zE) : zE := ⟨(fun cx d pc => if a.1.2.1 = o.1.2.1 then (a.1.1 cx d pc).bind (fun q => zI1 cx q (o.1.1 cx)) else none, o.1.2.2.1, fun C env σ K T => a.1.2.2 C env σ (fun x σ' => o.1.2.2.2.1 x σ' ∧ K (o.1.2.2.2.2 x σ') σ') T), fun _ _ _ _ _ _ _ _ hC hK hT h => a.2.1 _ _ _ _ _ _ _ _ hC (fun _ _ q => ⟨q.1, hK _ _ q.2⟩) hT h, by
  intro cx d pc pc' h
  dsimp only at h
  split at h
  · next ht =>
    obtain ⟨q, h1, h2⟩ := Option.bind_eq_some_iff.mp h
    obtain ⟨i, len, hi, hf, rfl⟩ := zI1_spec h2
    obtain ⟨l1, s1⟩ := a.2.2 cx d pc q h1
    refine ⟨Nat.le_trans l1 (Nat.le_add_right _ _), fun C hC env env1 st σ K Te R T hd hs hw k kt => s1 C hC env env1 st σ _ Te R T hd hs hw (fun v σ' hv => zRun_step hC hi ?_) (fun q' o' σ' a1 a2 a3 => kt q' o' σ' a1 (by omega) a3)⟩
    rw [ht]
    exact o.2 cx i hf _ _ _ _ _ _ _ _ _ _ hv.1 (k _ _ hv.2)
  · cases h⟩
def e2 (o : zO2) (a b : zE) : zE := ⟨(fun cx d pc => if a.1.2.1 = o.1.2.1.1 ∧ b.1.2.1 = o.1.2.1.2 then (a.1.1 cx d pc).bind (fun q => (b.1.1 cx (d + 1) q).bind (fun r => zI1 cx r (o.1.1 cx))) else none, o.1.2.2.1, fun C env σ K T => a.1.2.2 C env σ (fun x σ1 => b.1.2.2 C env σ1 (fun y σ2 => o.1.2.2.2.1 x y σ2 ∧ K (o.1.2.2.2.2 x y σ2) σ2) T) T), fun _ _ _ _ _ _ _ _ hC hK hT h => a.2.1 _ _ _ _ _ _ _ _ hC (fun _ _ q => b.2.1 _ _ _ _ _ _ _ _ hC (fun _ _ q => ⟨q.1, hK _ _ q.2⟩) hT q) hT h, by
  intro cx d pc pc' h
  dsimp only at h
  split at h
  · next ht =>
    obtain ⟨q, h1, h2⟩ := Option.bind_eq_some_iff.mp h
    obtain ⟨r, h3, h4⟩ := Option.bind_eq_some_iff.mp h2
    obtain ⟨i, len, hi, hf, rfl⟩ := zI1_spec h4
    obtain ⟨l1, s1⟩ := a.2.2 cx d pc q h1
    obtain ⟨l2, s2⟩ := b.2.2 cx (d + 1) q r h3
    refine ⟨by omega, fun C hC env env1 st σ K Te R T hd hs hw k kt => s1 C hC env env1 st σ _ Te R T hd hs hw (fun v σ1 hv => s2 C hC env env1 _ σ1 _ Te R T (by simp [hd]) hs hv (fun v2 σ2 hv2 => zRun_step hC hi ?_) (fun q' o' σ' a1 a2 a3 => kt q' o' σ' (by omega) (by omega) a3)) (fun q' o' σ' a1 a2 a3 => kt q' o' σ' a1 (by omega) a3)⟩
    rw [ht.1, ht.2]
    exact o.2 cx i hf _ _ _ _ _ _ _ _ _ _ _ hv2.1 (k _ _ hv2.2)
  · cases h⟩
/-- a byte out of an array: it is one -/
def eBy (a b : zPE) : zE := ⟨(fun cx _ pc => (p2 oBald a b).1.1 cx pc, 1, fun _ env σ K _ => (p2 oBald a b).1.2.2.1 env σ ∧ (zI8 ((p2 oBald a b).1.2.2.2 env σ) → K ((p2 oBald a b).1.2.2.2 env σ) σ)), fun _ _ _ _ _ _ _ _ _ hK _ h => ⟨h.1, fun q => hK _ _ (h.2 q)⟩, by
  intro cx d pc pc' h
  have l0 := ((p2 oBald a b).2 cx pc pc' h).1
  simp only [p2] at h
  split at h
  · next ht =>
    obtain ⟨q, h1, h2⟩ := Option.bind_eq_some_iff.mp h
    obtain ⟨r, h3, h4⟩ := Option.bind_eq_some_iff.mp h2
    obtain ⟨i, len, hi, hf, rfl⟩ := zI1_spec h4
    obtain ⟨l1, s1⟩ := a.2 cx pc q h1
    obtain ⟨l2, s2⟩ := b.2 cx q r h3
    refine ⟨l0, fun C hC env env1 st σ K Te R T hd hs hw k _ => s1 C hC env env1 st σ R T hs hw.1.1 (s2 C hC env env1 _ σ R T hs hw.1.2.1 (zRun_step hC hi ?_))⟩
    rw [ht.1, ht.2]
    cases of_decide_eq_true hf
    obtain ⟨o1, o2, o3⟩ := hw.1.2.2
    exact ⟨rfl, rfl, o1, o3, Or.inl ⟨o2, fun q => k _ _ (hw.2 q)⟩⟩
  · cases h⟩
-- ## arguments
def zEsW : List zE → zCS → List zTV → Mem → (List Int → Mem → Prop) → zK → Prop
  | [], _, _, σ, k, _ => k [] σ
  | e :: es, C, env, σ, k, T => e.1.2.2 C env σ (fun v σ1 => zEsW es C env σ1 (fun vs σ2 => k (v :: vs) σ2) T) T
def zEsC (cx : zCx) : List zE → Nat → Nat → Option Nat
  | [], _, pc => some pc
  | e :: es, d, pc => (e.1.1 cx d pc).bind (zEsC cx es (d + 1))
def zPush : List Nat → List Int → List zTV → List zTV
  | t :: ts, v :: vs, st => zPush ts vs ((t, v) :: st)
  | _, _, st => st
theorem zEsW_mono : ∀ (es : List zE) {C C' : zCS} {env : List zTV} {σ : Mem} {k k' : List Int → Mem → Prop} {T T' : zK}, zLe C C' → (∀ v σ, k v σ → k' v σ) → (∀ v σ, T v σ → T' v σ) → zEsW es C env σ k T → zEsW es C' env σ k' T'
  | [], _, _, _, _, _, _, _, _, _, hk, _, h => hk _ _ h
  | e :: es, _, _, _, _, _, _, _, _, hC, hk, hT, h => e.2.1 _ _ _ _ _ _ _ _ hC (fun _ _ q => zEsW_mono es hC (fun _ _ => hk _ _) hT q) hT h
theorem zEsC_spec {cx : zCx} : ∀ (es : List zE) {d pc pc' : Nat}, zEsC cx es d pc = some pc' → pc ≤ pc' ∧ ∀ C, zMono C → ∀ (env env1 st : List zTV) (σ : Mem) (k : List Int → Mem → Prop) (Te R T : zK), st.length = d → zSub env env1 → zEsW es C env σ k Te →
    (∀ vs σ', vs.length = es.length → k vs σ' → zRun C cx R T pc' env1 (zPush (es.map (fun e => e.1.2.1)) vs st) σ') → (∀ q o σ', pc ≤ q → q < pc' → Te o σ' → zThr cx T (zRun C cx R T) q env1 o σ') → zRun C cx R T pc env1 st σ
  | [], d, pc, pc', h => by
    have e : pc = pc' := Option.some.inj h
    subst e
    exact ⟨Nat.le_refl _, fun C hC env env1 st σ k Te R T hd hs hw kk _ => kk [] σ rfl hw⟩
  | e :: es, d, pc, pc', h => by
    obtain ⟨q, h1, h2⟩ := Option.bind_eq_some_iff.mp h
    obtain ⟨l1, s1⟩ := e.2.2 cx d pc q h1
    obtain ⟨l2, s2⟩ := zEsC_spec es h2
    refine ⟨Nat.le_trans l1 l2, fun C hC env env1 st σ k Te R T hd hs hw kk kt => s1 C hC env env1 st σ _ Te R T hd hs hw (fun v σ1 hv => s2 C hC env env1 _ σ1 _ Te R T (by simp [hd]) hs hv (fun vs σ2 hl hk => kk (v :: vs) σ2 (by simp [hl]) hk) (fun q' o' σ' a1 a2 a3 => kt q' o' σ' (by omega) a2 a3)) (fun q' o' σ' a1 a2 a3 => kt q' o' σ' a1 (by omega) a3)⟩
theorem zArgs_push {k : List Int → List zTV → Prop} : ∀ (ts : List Nat) (vs : List Int) (us : List Nat) (st : List zTV) (acc : List Int), vs.length = ts.length → zArgs us st (vs ++ acc) k → zArgs (ts.reverse ++ us) (zPush ts vs st) acc k
  | [], [], us, st, acc, _, h => h
  | [], _ :: _, _, _, _, hl, _ => by simp at hl
  | _ :: _, [], _, _, _, hl, _ => by simp at hl
  | t :: ts, v :: vs, us, st, acc, hl, h => by
    rw [List.reverse_cons, List.append_assoc]
    exact zArgs_push ts vs (t :: us) ((t, v) :: st) acc (by simpa using hl) ⟨rfl, h⟩
def zIsCall (cx : zCx) (y : Nat) (i : Instr) : Bool := match i with
  | .invokevirtual k => decide (tMeth cx.1 k = some y)
  | .invokestatic k => decide (tMeth cx.1 k = some y)
  | .invokespecial k => decide (tMeth cx.1 k = some y)
  | _ => false
theorem zIsCall_spec {C : zCS} {cx : zCx} {R T : zK} {go : zGo} {pc len : Nat} {env st : List zTV} {σ : Mem} {y : Nat} {i : Instr} (h : zIsCall cx y i = true) (hy : y < 1000) (k : zCall C cx T go pc (pc + len) env st σ y) : zIns C cx R T go pc len env st σ i := by
  unfold zIsCall at h
  split at h
  · exact ⟨y, of_decide_eq_true h, hy, k⟩
  · refine ⟨y, of_decide_eq_true h, ?_⟩
    rw [if_neg (by omega)]
    exact ⟨hy, k⟩
  · refine ⟨y, of_decide_eq_true h, ?_⟩
    rw [if_neg (by omega)]
    exact ⟨hy, k⟩
  · cases h
def zCallC (cx : zCx) (y : Nat) (es : List zE) (d pc : Nat) : Option Nat := if y < 1000 ∧ (es.map (fun e => e.1.2.1)).reverse = tArgs y ∧ d ≤ 8 then (zEsC cx es d pc).bind (fun q => zI1 cx q (zIsCall cx y)) else none
def zCallW (y : Nat) (es : List zE) (C : zCS) (env : List zTV) (σ : Mem) (K T : zK) : Prop := zEsW es C env σ (fun vs σ1 => C y vs σ1 K T) T
theorem zCallW_mono {y : Nat} {es : List zE} : zEm (zCallW y es) := fun _ _ _ _ _ _ _ _ hC hK hT h => zEsW_mono es hC (fun _ _ q => hC _ _ _ _ _ _ _ hK hT q) hT h
theorem zCallC_spec {cx : zCx} {y : Nat} {es : List zE} {d pc pc' : Nat} (h : zCallC cx y es d pc = some pc') : pc ≤ pc' ∧ ∀ C, zMono C → ∀ (env env1 st : List zTV) (σ : Mem) (K Te R T : zK), st.length = d → zSub env env1 → zCallW y es C env σ K Te →
    (∀ v σ', K v σ' → zRun C cx R T pc' env1 (if tRet y = 0 then st else (zTag (tRet y), v) :: st) σ') → (∀ q o σ', pc ≤ q → q < pc' → Te o σ' → zThr cx T (zRun C cx R T) q env1 o σ') → zRun C cx R T pc env1 st σ := by
  unfold zCallC at h
  split at h
  · next hy =>
    obtain ⟨q, h1, h2⟩ := Option.bind_eq_some_iff.mp h
    obtain ⟨i, len, hi, hf, rfl⟩ := zI1_spec h2
    obtain ⟨l1, s1⟩ := zEsC_spec es h1
    have hlen := zI1_pos h2
    refine ⟨by omega, fun C hC env env1 st σ K Te R T hd hs hw k kt => ?_⟩
    refine s1 C hC env env1 st σ _ Te R T hd hs hw (fun vs σ1 hl hv => zRun_step hC hi (zIsCall_spec hf hy.1 ?_)) (fun q' o' σ' a1 a2 a3 => kt q' o' σ' a1 (by omega) a3)
    unfold zCall
    rw [← hy.2.1]
    have z := zArgs_push (k := fun as r => r.length ≤ 8 ∧ C y as σ1 (fun v σ' => zRun C cx R T (q + len) env1 (if tRet y = 0 then r else (zTag (tRet y), v) :: r) σ') (fun o σ' => zThr cx T (zRun C cx R T) q env1 o σ')) (es.map (fun e => e.1.2.1)) vs [] st [] (by simpa using hl) (by
      rw [List.append_nil]
      exact ⟨by rw [hd]; exact hy.2.2, hC _ _ _ _ _ _ _ (fun v σ' hK => k v σ' hK) (fun o σ' hT => kt q o σ' l1 hlen hT) hv⟩)
    rw [List.append_nil] at z
    exact z
  · cases h
def eCall (y : Nat) (es : List zE) : zE := ⟨(fun cx d pc => if tRet y = 0 then none else zCallC cx y es d pc, zTag (tRet y), zCallW y es), zCallW_mono, by
  intro cx d pc pc' h
  dsimp only at h
  split at h
  · cases h
  · next h0 =>
    obtain ⟨l1, s1⟩ := zCallC_spec h
    exact ⟨l1, fun C hC env env1 st σ K Te R T hd hs hw k kt => s1 C hC env env1 st σ K Te R T hd hs hw (fun v σ' q => by rw [if_neg h0]; exact k v σ' q) kt⟩⟩
def eIte (c : zC) (a b : zE) : zE := ⟨(fun cx d pc => if b.1.2.1 = a.1.2.1 then (c.1.1 cx d true pc).bind (fun j => zIteC cx j (a.1.1 cx d) (b.1.1 cx d)) else none, a.1.2.1, fun C env σ K T => c.1.2 C env σ (fun x σ1 => (x = true → a.1.2.2 C env σ1 K T) ∧ (x = false → b.1.2.2 C env σ1 K T)) T), fun _ _ _ _ _ _ _ _ hC hK hT h => c.2.1 _ _ _ _ _ _ _ _ hC (fun _ _ q => ⟨fun e => a.2.1 _ _ _ _ _ _ _ _ hC hK hT (q.1 e), fun e => b.2.1 _ _ _ _ _ _ _ _ hC hK hT (q.2 e)⟩) hT h, by
  intro cx d pc pc' h
  dsimp only at h
  split at h
  · next ht =>
    obtain ⟨j, h1, h2⟩ := Option.bind_eq_some_iff.mp h
    obtain ⟨p, q, ha, hb, lpq, sp⟩ := zIteC_spec h2
    obtain ⟨l0, s0⟩ := c.2.2 cx d true pc j h1
    obtain ⟨l1, s1⟩ := a.2.2 cx d j.1 p ha
    obtain ⟨l2, s2⟩ := b.2.2 cx d q pc' hb
    refine ⟨by omega, fun C hC env env1 st σ K Te R T hd hs hw k kt => s0 C hC env env1 st σ _ Te R T hd hs hw (fun x σ1 hx => ?_) (fun q' o' σ' a1 a2 a3 => kt q' o' σ' a1 (by omega) a3)⟩
    have ga : x = true → zRun C cx R T j.1 env1 st σ1 := fun e => s1 C hC env env1 st σ1 K Te R T hd hs (hx.1 e) (fun v σ2 hv => (sp C hC R T _ _ σ2).2.2 (k v σ2 hv)) (fun q' o' σ' a1 a2 a3 => kt q' o' σ' (by omega) (by omega) a3)
    have gb : x = false → zRun C cx R T q env1 st σ1 := fun e => s2 C hC env env1 st σ1 K Te R T hd hs (hx.2 e) (fun v σ2 hv => by rw [ht]; exact k v σ2 hv) (fun q' o' σ' a1 a2 a3 => kt q' o' σ' (by omega) (by omega) a3)
    exact ⟨ga, fun e => (sp C hC R T _ _ σ1).1 (ga e), fun e => (sp C hC R T _ _ σ1).2.1 (gb e)⟩
  · cases h⟩
def eB (c : zC) : zE := ⟨(fun cx d pc => (c.1.1 cx d true pc).bind (fun j => zIteC cx j ((pI 1).1.1 cx) ((pI 0).1.1 cx)), 1, fun C env σ K T => c.1.2 C env σ (fun x σ1 => K (b2i x) σ1) T), fun _ _ _ _ _ _ _ _ hC hK hT h => c.2.1 _ _ _ _ _ _ _ _ hC (fun _ _ q => hK _ _ q) hT h, by
  intro cx d pc pc' h
  have z := (eIte c (eP (pI 1)) (eP (pI 0))).2.2 cx d pc pc' (by simpa [eIte, eP, pI] using h)
  refine ⟨z.1, fun C hC env env1 st σ K Te R T hd hs hw k kt => z.2 C hC env env1 st σ K Te R T hd hs ?_ k kt⟩
  refine c.2.1 _ _ _ _ _ _ _ _ hC (fun x σ1 q => ⟨fun e => ⟨trivial, ?_⟩, fun e => ⟨trivial, ?_⟩⟩) (fun _ _ => id) hw
  · subst e; exact q
  · subst e; exact q⟩
-- ## general conditions
def cI (c : ClassFile.Cond) (a b : zE) : zC := ⟨(fun cx d m pc => if a.1.2.1 = 1 ∧ b.1.2.1 = 1 then (a.1.1 cx d pc).bind (fun q => (b.1.1 cx (d + 1) q).bind (zCi cx c m)) else none, fun C env σ K T => a.1.2.2 C env σ (fun x σ1 => b.1.2.2 C env σ1 (fun y σ2 => K (zcb c x y) σ2) T) T), fun _ _ _ _ _ _ _ _ hC hK hT h => a.2.1 _ _ _ _ _ _ _ _ hC (fun _ _ q => b.2.1 _ _ _ _ _ _ _ _ hC (fun _ _ q => hK _ _ q) hT q) hT h, by
  intro cx d m pc j h
  dsimp only at h
  split at h
  · next ht =>
    obtain ⟨q, h1, h2⟩ := Option.bind_eq_some_iff.mp h
    obtain ⟨r, h3, h4⟩ := Option.bind_eq_some_iff.mp h2
    obtain ⟨l1, s1⟩ := a.2.2 cx d pc q h1
    obtain ⟨l2, s2⟩ := b.2.2 cx (d + 1) q r h3
    have hc : zMono (fun _ _ _ _ _ => False) := fun _ _ _ _ _ _ _ _ _ h => h
    have l3 := (zCi_spec (R := fun _ _ => True) (T := fun _ _ => True) hc h4).1
    refine ⟨by omega, fun C hC env env1 st σ K Te R T hd hs hw k kt => s1 C hC env env1 st σ _ Te R T hd hs hw (fun x σ1 hx => s2 C hC env env1 _ σ1 _ Te R T (by simp [hd]) hs hx (fun y σ2 hy => ?_) (fun q' o' σ' a1 a2 a3 => kt q' o' σ' (by omega) (by omega) a3)) (fun q' o' σ' a1 a2 a3 => kt q' o' σ' a1 (by omega) a3)⟩
    rw [ht.1, ht.2]
    obtain ⟨k1, k2, k3⟩ := k _ _ hy
    exact (zCi_spec hC h4).2 env1 st σ2 _ _ k1 k2 k3
  · cases h⟩
def cL (c : ClassFile.Cond) (a b : zE) : zC := ⟨(fun cx d m pc => if a.1.2.1 = 2 ∧ b.1.2.1 = 2 then (a.1.1 cx d pc).bind (fun q => (b.1.1 cx (d + 1) q).bind (zCl cx c m)) else none, fun C env σ K T => a.1.2.2 C env σ (fun x σ1 => b.1.2.2 C env σ1 (fun y σ2 => K (zcb c x y) σ2) T) T), fun _ _ _ _ _ _ _ _ hC hK hT h => a.2.1 _ _ _ _ _ _ _ _ hC (fun _ _ q => b.2.1 _ _ _ _ _ _ _ _ hC (fun _ _ q => hK _ _ q) hT q) hT h, by
  intro cx d m pc j h
  dsimp only at h
  split at h
  · next ht =>
    obtain ⟨q, h1, h2⟩ := Option.bind_eq_some_iff.mp h
    obtain ⟨r, h3, h4⟩ := Option.bind_eq_some_iff.mp h2
    obtain ⟨l1, s1⟩ := a.2.2 cx d pc q h1
    obtain ⟨l2, s2⟩ := b.2.2 cx (d + 1) q r h3
    have hc : zMono (fun _ _ _ _ _ => False) := fun _ _ _ _ _ _ _ _ _ h => h
    have l3 := (zCl_spec (R := fun _ _ => True) (T := fun _ _ => True) hc h4).1
    refine ⟨by omega, fun C hC env env1 st σ K Te R T hd hs hw k kt => s1 C hC env env1 st σ _ Te R T hd hs hw (fun x σ1 hx => s2 C hC env env1 _ σ1 _ Te R T (by simp [hd]) hs hx (fun y σ2 hy => ?_) (fun q' o' σ' a1 a2 a3 => kt q' o' σ' (by omega) (by omega) a3)) (fun q' o' σ' a1 a2 a3 => kt q' o' σ' a1 (by omega) a3)⟩
    rw [ht.1, ht.2]
    obtain ⟨k1, k2, k3⟩ := k _ _ hy
    exact (zCl_spec hC h4).2 env1 st σ2 _ _ k1 k2 k3
  · cases h⟩
def c0 (c : ClassFile.Cond) (a : zE) : zC := ⟨(fun cx d m pc => if a.1.2.1 = 1 then (a.1.1 cx d pc).bind (zC0 cx c m) else none, fun C env σ K T => a.1.2.2 C env σ (fun x σ1 => K (zcb c x 0) σ1) T), fun _ _ _ _ _ _ _ _ hC hK hT h => a.2.1 _ _ _ _ _ _ _ _ hC (fun _ _ q => hK _ _ q) hT h, by
  intro cx d m pc j h
  dsimp only at h
  split at h
  · next ht =>
    obtain ⟨q, h1, h2⟩ := Option.bind_eq_some_iff.mp h
    obtain ⟨l1, s1⟩ := a.2.2 cx d pc q h1
    have hc : zMono (fun _ _ _ _ _ => False) := fun _ _ _ _ _ _ _ _ _ h => h
    have l3 := (zC0_spec (R := fun _ _ => True) (T := fun _ _ => True) hc h2).1
    refine ⟨by omega, fun C hC env env1 st σ K Te R T hd hs hw k kt => s1 C hC env env1 st σ _ Te R T hd hs hw (fun x σ1 hx => ?_) (fun q' o' σ' a1 a2 a3 => kt q' o' σ' a1 (by omega) a3)⟩
    rw [ht]
    obtain ⟨k1, k2, k3⟩ := k _ _ hx
    exact (zC0_spec hC h2).2 env1 st σ1 _ k1 k2 k3
  · cases h⟩
def cNot (c : zC) : zC := ⟨(fun cx d m pc => (c.1.1 cx d (!m) pc).map zJnot, fun C env σ K T => c.1.2 C env σ (fun x σ1 => K (!x) σ1) T), fun _ _ _ _ _ _ _ _ hC hK hT h => c.2.1 _ _ _ _ _ _ _ _ hC (fun _ _ q => hK _ _ q) hT h, by
  intro cx d m pc j h
  obtain ⟨j', h1, rfl⟩ := Option.map_eq_some_iff.mp h
  obtain ⟨l1, s1⟩ := c.2.2 cx d (!m) pc j' h1
  refine ⟨l1, fun C hC env env1 st σ K Te R T hd hs hw k kt => s1 C hC env env1 st σ _ Te R T hd hs hw (fun x σ1 hx => ?_) kt⟩
  obtain ⟨k1, k2, k3⟩ := k _ _ hx
  refine ⟨fun e => k1 (by rw [e]; simp), fun e => k3 (by rw [e]; rfl), fun e => k2 (by rw [e]; rfl)⟩⟩
def cAnd (a b : zC) : zC := ⟨(fun cx d m pc => (a.1.1 cx d true pc).bind (fun j1 => zJand cx m j1 (b.1.1 cx d m)), fun C env σ K T => a.1.2 C env σ (fun x σ1 => (x = true → b.1.2 C env σ1 K T) ∧ (x = false → K false σ1)) T), fun _ _ _ _ _ _ _ _ hC hK hT h => a.2.1 _ _ _ _ _ _ _ _ hC (fun _ _ q => ⟨fun e => b.2.1 _ _ _ _ _ _ _ _ hC hK hT (q.1 e), fun e => hK _ _ (q.2 e)⟩) hT h, by
  intro cx d m pc j h
  obtain ⟨j1, h1, h2⟩ := Option.bind_eq_some_iff.mp h
  obtain ⟨j2, h3, e, sp⟩ := zJand_spec h2
  obtain ⟨l1, s1⟩ := a.2.2 cx d true pc j1 h1
  obtain ⟨l2, s2⟩ := b.2.2 cx d m j1.1 j2 h3
  refine ⟨by rw [e]; exact Nat.le_trans l1 l2, fun C hC env env1 st σ K Te R T hd hs hw k kt => s1 C hC env env1 st σ _ Te R T hd hs hw (fun x σ1 hx => ?_) (fun q' o' σ' a1 a2 a3 => kt q' o' σ' a1 (by rw [e]; omega) a3)⟩
  have go : x = true → zRun C cx R T j1.1 env1 st σ1 := fun ha => s2 C hC env env1 st σ1 K Te R T hd hs (hx.1 ha) (fun y σ2 hy => by
    obtain ⟨k1, k2, k3⟩ := k _ _ hy
    obtain ⟨sa, sb, sc, sd⟩ := sp C hC R T env1 st σ2
    exact ⟨fun q => by rw [← e]; exact k1 q, fun q => sc (k2 q), fun q => sd (k3 q)⟩) (fun q' o' σ' a1 a2 a3 => kt q' o' σ' (by omega) (by rw [e]; omega) a3)
  obtain ⟨sa, sb, sc, sd⟩ := sp C hC R T env1 st σ1
  refine ⟨go, fun q => sa (go q), fun q => ?_⟩
  obtain ⟨k1, k2, k3⟩ := k _ _ (hx.2 q)
  exact sb (fun _ => k3 rfl) (fun hm => k1 hm.symm)⟩
def cOr (a b : zC) : zC := ⟨(fun cx d m pc => (a.1.1 cx d false pc).bind (fun j1 => zJor cx m j1 (b.1.1 cx d m)), fun C env σ K T => a.1.2 C env σ (fun x σ1 => (x = true → K true σ1) ∧ (x = false → b.1.2 C env σ1 K T)) T), fun _ _ _ _ _ _ _ _ hC hK hT h => a.2.1 _ _ _ _ _ _ _ _ hC (fun _ _ q => ⟨fun e => hK _ _ (q.1 e), fun e => b.2.1 _ _ _ _ _ _ _ _ hC hK hT (q.2 e)⟩) hT h, by
  intro cx d m pc j h
  obtain ⟨j1, h1, h2⟩ := Option.bind_eq_some_iff.mp h
  obtain ⟨j2, h3, e, sp⟩ := zJor_spec h2
  obtain ⟨l1, s1⟩ := a.2.2 cx d false pc j1 h1
  obtain ⟨l2, s2⟩ := b.2.2 cx d m j1.1 j2 h3
  refine ⟨by rw [e]; exact Nat.le_trans l1 l2, fun C hC env env1 st σ K Te R T hd hs hw k kt => s1 C hC env env1 st σ _ Te R T hd hs hw (fun x σ1 hx => ?_) (fun q' o' σ' a1 a2 a3 => kt q' o' σ' a1 (by rw [e]; omega) a3)⟩
  have go : x = false → zRun C cx R T j1.1 env1 st σ1 := fun ha => s2 C hC env env1 st σ1 K Te R T hd hs (hx.2 ha) (fun y σ2 hy => by
    obtain ⟨k1, k2, k3⟩ := k _ _ hy
    obtain ⟨sa, sb, sc, sd⟩ := sp C hC R T env1 st σ2
    exact ⟨fun q => by rw [← e]; exact k1 q, fun q => sc (k2 q), fun q => sd (k3 q)⟩) (fun q' o' σ' a1 a2 a3 => kt q' o' σ' (by omega) (by rw [e]; omega) a3)
  obtain ⟨sa, sb, sc, sd⟩ := sp C hC R T env1 st σ1
  refine ⟨go, fun q => ?_, fun q => sa (go q)⟩
  obtain ⟨k1, k2, k3⟩ := k _ _ (hx.1 q)
  exact sb (fun _ => k2 rfl) (fun hm => k1 hm.symm)⟩
-- ## new objects
def eNewA (ty : ArrayType) (a : zPE) : zE := ⟨(fun cx d pc => if a.1.2.1 = 1 then (a.1.1 cx pc).bind (fun q => zI1 cx q (fun i => decide (i = .newarray ty))) else none, 3, fun _ env σ K _ => a.1.2.2.1 env σ ∧ 0 ≤ a.1.2.2.2 env σ ∧ 0 < zAt ty ∧ zSh σ (σ 0 0).toNat = (zAt ty, (a.1.2.2.2 env σ).toNat) ∧ K (σ 0 0) (mnew σ)), fun _ _ _ _ _ _ _ _ _ hK _ h => ⟨h.1, h.2.1, h.2.2.1, h.2.2.2.1, hK _ _ h.2.2.2.2⟩, by
  intro cx d pc pc' h
  dsimp only at h
  split at h
  · next ht =>
    obtain ⟨q, h1, h2⟩ := Option.bind_eq_some_iff.mp h
    obtain ⟨i, len, hi, hf, rfl⟩ := zI1_spec h2
    obtain ⟨l1, s1⟩ := a.2 cx pc q h1
    refine ⟨Nat.le_trans l1 (Nat.le_add_right _ _), fun C hC env env1 st σ K Te R T hd hs hw k kt => s1 C hC env env1 st σ R T hs hw.1 (zRun_step hC hi ?_)⟩
    rw [ht]
    cases of_decide_eq_true hf
    exact ⟨rfl, hw.2.1, hw.2.2.1, hw.2.2.2.1, k _ _ hw.2.2.2.2⟩
  · cases h⟩
def zIsNew (cx : zCx) (ci : Nat) (i : Instr) : Bool := match i with
  | .new k => decide (tClass cx.1 k = some ci)
  | _ => false
def zNewC (cx : zCx) (ci pc : Nat) : Option Nat := (zI1 cx pc (zIsNew cx ci)).bind (fun q => zI1 cx q (fun i => decide (i = .dup)))
theorem zNewC_spec {cx : zCx} {ci pc pc' : Nat} (h3 : ci ≠ 3) (h : zNewC cx ci pc = some pc') : pc ≤ pc' ∧ ∀ C, zMono C → ∀ (env st : List zTV) (σ : Mem) (R T : zK), zSh σ (σ 0 0).toNat = (5, ci) → zRun C cx R T pc' env ((3, σ 0 0) :: (3, σ 0 0) :: st) (mnew σ) → zRun C cx R T pc env st σ := by
  obtain ⟨q, h1, h2⟩ := Option.bind_eq_some_iff.mp h
  obtain ⟨i, len, hi, hf, rfl⟩ := zI1_spec h1
  obtain ⟨i2, len2, hi2, hf2, rfl⟩ := zI1_spec h2
  refine ⟨by omega, fun C hC env st σ R T hsh k => zRun_step hC hi ?_⟩
  unfold zIsNew at hf
  split at hf
  · cases of_decide_eq_true hf2
    exact ⟨ci, of_decide_eq_true hf, hsh, by rw [if_neg h3]; exact zRun_step hC hi2 ⟨Or.inr rfl, k⟩⟩
  · cases hf
def eNew (ci y : Nat) (es : List zE) : zE := ⟨(fun cx d pc => if tRet y = 0 ∧ y < 1000 ∧ (3 :: es.map (fun e => e.1.2.1)).reverse = tArgs y ∧ d + 1 ≤ 8 ∧ ci ≠ 3 then (zNewC cx ci pc).bind (fun q => (zEsC cx es (d + 2) q).bind (fun r => zI1 cx r (zIsCall cx y))) else none, 3,
    fun C env σ K T => zSh σ (σ 0 0).toNat = (5, ci) ∧ zEsW es C env (mnew σ) (fun vs σ1 => C y (σ 0 0 :: vs) σ1 (fun _ σ2 => K (σ 0 0) σ2) T) T), fun _ _ _ _ _ _ _ _ hC hK hT h => ⟨h.1, zEsW_mono es hC (fun _ _ q => hC _ _ _ _ _ _ _ (fun _ _ => hK _ _) hT q) hT h.2⟩, by
  intro cx d pc pc' h
  dsimp only at h
  split at h
  · next hy =>
    obtain ⟨q, h1, h⟩ := Option.bind_eq_some_iff.mp h
    obtain ⟨r, h2, h3⟩ := Option.bind_eq_some_iff.mp h
    obtain ⟨i, len, hi, hf, rfl⟩ := zI1_spec h3
    have hlen := zI1_pos h3
    obtain ⟨l1, s1⟩ := zNewC_spec hy.2.2.2.2 h1
    obtain ⟨l2, s2⟩ := zEsC_spec es h2
    refine ⟨by omega, fun C hC env env1 st σ K Te R T hd hs hw k kt => s1 C hC env1 st σ R T hw.1 (s2 C hC env env1 _ (mnew σ) _ Te R T (by simp [hd]) hs hw.2 (fun vs σ1 hl hv => zRun_step hC hi (zIsCall_spec hf hy.2.1 ?_)) (fun q' o' σ' a1 a2 a3 => kt q' o' σ' (by omega) (by omega) a3))⟩
    unfold zCall
    rw [← hy.2.2.1]
    have z := zArgs_push (k := fun as r' => r'.length ≤ 8 ∧ C y as σ1 (fun v σ' => zRun C cx R T (r + len) env1 (if tRet y = 0 then r' else (zTag (tRet y), v) :: r') σ') (fun o σ' => zThr cx T (zRun C cx R T) r env1 o σ')) (3 :: es.map (fun e => e.1.2.1)) (σ 0 0 :: vs) [] ((3, σ 0 0) :: st) [] (by simpa using hl) (by
      rw [List.append_nil]
      exact ⟨by simpa [hd] using hy.2.2.2.1, hC _ _ _ _ _ _ _ (fun v σ' hK => by rw [if_pos hy.1]; exact k _ σ' hK) (fun o σ' hT => kt r o σ' (by omega) hlen hT) hv⟩)
    rw [List.append_nil] at z
    exact z
  · cases h⟩
def zIsSp (cx : zCx) (y : Nat) (i : Instr) : Bool := match i with
  | .invokespecial k => decide (tMeth cx.1 k = some y)
  | _ => false
def zNewSC (cx : zCx) (pc : Nat) : Option Nat := match cx.2.2.2.1 pc, cx.2.2.2.1 (pc + 3), cx.2.2.2.1 (pc + 3 + 1) with
  | some (.new k, l1), some (i2, l2), some (.invokespecial k2, l3) => if tClass cx.1 k = some 3 ∧ l1 = 3 ∧ i2 = .dup ∧ l2 = 1 ∧ l3 = 3 ∧ tMeth cx.1 k2 = some 1001 then some (pc + 7) else none
  | _, _, _ => none
def eNewS : zE := ⟨(fun cx d pc => if d ≤ 8 then zNewSC cx pc else none, 3,
    fun _ _ σ K _ => zSh σ (σ 0 0).toNat = (5, 3) ∧ 0 < σ 0 0 ∧ K (σ 0 0) (mnew σ)), fun _ _ _ _ _ _ _ _ hC hK hT h => ⟨h.1, h.2.1, hK _ _ h.2.2⟩, by
  intro cx d pc pc' h
  replace h : (if d ≤ 8 then zNewSC cx pc else none) = some pc' := h
  by_cases h8 : d ≤ 8
  case neg => rw [if_neg h8] at h; cases h
  rw [if_pos h8] at h
  unfold zNewSC at h
  split at h
  · next k l1 i2 l2 k2 l3 h1 h2 h3 =>
    split at h
    · next hc =>
      obtain ⟨c1, rfl, rfl, rfl, rfl, c2⟩ := hc
      cases h
      refine ⟨by omega, fun C hC env env1 st σ K Te R T hd hs hw k' kt => zRun_step hC h1 ⟨3, c1, hw.1, ?_⟩⟩
      rw [if_pos rfl]
      exact ⟨k2, rfl, by omega, h2, h3, c2, k' _ _ hw.2.2⟩
    · cases h
  · cases h⟩
