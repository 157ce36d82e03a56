/-! the meaning of the structured code, as rewriting rules (printed by wip/tools/gen4.py) -/
abbrev zF : zV := fun _ _ => False
abbrev zFk : zK := fun _ _ => False
theorem zwq : (∀ (a b : zS) (C : zCS) (env : List zTV) (σ : Mem) (N B O : zV) (R T : zK), ((sSeq a b).1.2 C env σ N B O R T) = (a.1.2 C env σ (fun e s => b.1.2 C e s N B O R T) B O R T)) ∧
  (∀ (C : zCS) (env : List zTV) (σ : Mem) (N B O : zV) (R T : zK), (sSkip.1.2 C env σ N B O R T) = (N env σ)) ∧
  (∀ (k : Nat) (s : zS) (C : zCS) (env : List zTV) (σ : Mem) (N B O : zV) (R T : zK), ((sBlk k s).1.2 C env σ N B O R T) = (s.1.2 C env σ (fun e s => N (zKill k e) s) (fun e s => B (zKill k e) s) (fun e s => O (zKill k e) s) R T)) ∧
  (∀ (g : Bool) (C : zCS) (env : List zTV) (σ : Mem) (N B O : zV) (R T : zK), ((sBrk g).1.2 C env σ N B O R T) = (B env σ)) ∧
  (∀ (g : Bool) (C : zCS) (env : List zTV) (σ : Mem) (N B O : zV) (R T : zK), ((sCnt g).1.2 C env σ N B O R T) = (O env σ)) ∧
  (∀ (c : zC) (x : zS) (C : zCS) (env : List zTV) (σ : Mem) (N B O : zV) (R T : zK), ((sIf c x).1.2 C env σ N B O R T) = (c.1.2 C env σ (fun b s => (b = true → x.1.2 C env s N B O R T) ∧ (b = false → N env s)) T)) ∧
  (∀ (c : zC) (x y : zS) (C : zCS) (env : List zTV) (σ : Mem) (N B O : zV) (R T : zK), ((sIfE c x y).1.2 C env σ N B O R T) = (c.1.2 C env σ (fun b s => (b = true → x.1.2 C env s N B O R T) ∧ (b = false → y.1.2 C env s N B O R T)) T)) ∧
  (∀ (C : zCS) (env : List zTV) (σ : Mem) (N B O : zV) (R T : zK), (sRet0.1.2 C env σ N B O R T) = (R 0 σ)) ∧
  (∀ (rt : Nat) (e : zE) (C : zCS) (env : List zTV) (σ : Mem) (N B O : zV) (R T : zK), ((sRet rt e).1.2 C env σ N B O R T) = (e.1.2.2 C env σ (fun v s => (rt = 4 → zB v) ∧ R v s) T)) ∧
  (∀ (e : zE) (C : zCS) (env : List zTV) (σ : Mem) (N B O : zV) (R T : zK), ((sThr e).1.2 C env σ N B O R T) = (e.1.2.2 C env σ (fun v s => 0 < v ∧ T v s) T)) ∧
  (∀ (t k : Nat) (e : zE) (C : zCS) (env : List zTV) (σ : Mem) (N B O : zV) (R T : zK), ((sSt t k e).1.2 C env σ N B O R T) = (e.1.2.2 C env σ (fun v s => k + (if t = 2 then 1 else 0) < env.length ∧ N (zSto t k v env) s) T)) ∧
  (∀ (k : Nat) (n : Int) (C : zCS) (env : List zTV) (σ : Mem) (N B O : zV) (R T : zK), ((sInc k n).1.2 C env σ N B O R T) = (zHas 1 k env ∧ N (zSto 1 k (w32 (zGet k env + n)) env) σ)) ∧
  (∀ (x : zE) (ci f t : Nat) (e : zE) (C : zCS) (env : List zTV) (σ : Mem) (N B O : zV) (R T : zK), ((sPf x ci f t e).1.2 C env σ N B O R T) = (x.1.2.2 C env σ (fun o s1 => e.1.2.2 C env s1 (fun v s2 => 0 < o ∧ zSh s2 o.toNat = (5, ci) ∧ (t = 4 → zB v) ∧ N env (mset s2 o.toNat f v)) T) T)) ∧
  (∀ (x : zE) (ci f t : Nat) (o : zO2) (e : zE) (C : zCS) (env : List zTV) (σ : Mem) (N B O : zV) (R T : zK), ((sPfo x ci f t o e).1.2 C env σ N B O R T) = (x.1.2.2 C env σ (fun x s1 => 0 < x ∧ zSh s1 x.toNat = (5, ci) ∧ e.1.2.2 C env s1 (fun v s2 => o.1.2.2.2.1 (s1 x.toNat f) v s2 ∧ zSh s2 x.toNat = (5, ci) ∧ N env (mset s2 x.toNat f (o.1.2.2.2.2 (s1 x.toNat f) v s2))) T) T)) ∧
  (∀ (ty : Nat) (x j e : zE) (C : zCS) (env : List zTV) (σ : Mem) (N B O : zV) (R T : zK), ((sSe ty x j e).1.2 C env σ N B O R T) = (x.1.2.2 C env σ (fun x s1 => j.1.2.2 C env s1 (fun y s2 => e.1.2.2 C env s2 (fun v s3 => 4 < x ∧ (zSh s3 x.toNat).1 = ty ∧ zIn y (zSh s3 x.toNat).2 ∧ zGd ty v ∧ N env (mset s3 x.toNat y.toNat v)) T) T) T)) ∧
  (∀ (x j : zE) (o : zO2) (e : zE) (C : zCS) (env : List zTV) (σ : Mem) (N B O : zV) (R T : zK), ((sSeo x j o e).1.2 C env σ N B O R T) = (x.1.2.2 C env σ (fun x s1 => j.1.2.2 C env s1 (fun y s2 => 4 < x ∧ (zSh s2 x.toNat).1 = 1 ∧ zIn y (zSh s2 x.toNat).2 ∧ e.1.2.2 C env s2 (fun v s3 => (zSh s3 x.toNat).1 = 1 ∧ zIn y (zSh s3 x.toNat).2 ∧ o.1.2.2.2.1 (s2 x.toNat y.toNat) v s3 ∧ N env (mset s3 x.toNat y.toNat (o.1.2.2.2.2 (s2 x.toNat y.toNat) v s3))) T) T) T)) ∧
  (∀ (y : Nat) (es : List zE) (C : zCS) (env : List zTV) (σ : Mem) (N B O : zV) (R T : zK), ((sCall y es).1.2 C env σ N B O R T) = (zEsW es C env σ (fun vs s => C y vs s (fun _ s => N env s) T) T)) ∧
  (∀ (C : zCS) (env : List zTV) (σ : Mem) (N B O : zV) (R T : zK), (sSup.1.2 C env σ N B O R T) = (zHas 3 0 env ∧ 0 < zGet 0 env ∧ N env σ)) ∧
  (∀ (x i y j n : zPE) (C : zCS) (env : List zTV) (σ : Mem) (N B O : zV) (R T : zK), ((sCpy x i y j n).1.2 C env σ N B O R T) = ((x.1.2.2.1 env σ ∧ i.1.2.2.1 env σ ∧ y.1.2.2.1 env σ ∧ j.1.2.2.1 env σ ∧ n.1.2.2.1 env σ) ∧ 4 < x.1.2.2.2 env σ ∧ 4 < y.1.2.2.2 env σ ∧ x.1.2.2.2 env σ ≠ y.1.2.2.2 env σ ∧ 0 ≤ i.1.2.2.2 env σ ∧ 0 ≤ j.1.2.2.2 env σ ∧ 0 ≤ n.1.2.2.2 env σ ∧ (zSh σ (x.1.2.2.2 env σ).toNat).1 = 2 ∧ (zSh σ (y.1.2.2.2 env σ).toNat).1 = 2 ∧ i.1.2.2.2 env σ + n.1.2.2.2 env σ ≤ ((zSh σ (x.1.2.2.2 env σ).toNat).2 : Int) ∧ j.1.2.2.2 env σ + n.1.2.2.2 env σ ≤ ((zSh σ (y.1.2.2.2 env σ).toNat).2 : Int) ∧ N env (mcpy σ (x.1.2.2.2 env σ).toNat (i.1.2.2.2 env σ).toNat (y.1.2.2.2 env σ).toNat (j.1.2.2.2 env σ).toNat (n.1.2.2.2 env σ).toNat))) ∧
  (∀ (e : zE) (tab : List (Int × Nat)) (d : Nat) (gs : List zS) (C : zCS) (env : List zTV) (σ : Mem) (N B O : zV) (R T : zK), ((sSw e tab d gs).1.2 C env σ N B O R T) = (e.1.2.2 C env σ (fun x s => zSwW (fun j => zGw (gs.drop j) C env s N O R T) d x tab) T)) ∧
  (∀ (b : zS) (ci k : Nat) (h : zS) (C : zCS) (env : List zTV) (σ : Mem) (N B O : zV) (R T : zK), ((sTry b ci k h).1.2 C env σ N B O R T) = (b.1.2 C env σ N B O R (fun o s => 0 < o ∧ zSh s o.toNat = (5, ci) ∧ k < env.length ∧ h.1.2 C (zHenv k o env) s N B O R T))) ∧
  (∀ (c : zC) (b u : zS) (C : zCS) (env : List zTV) (σ : Mem) (N B O : zV) (R T : zK), ((sWh c b u).1.2 C env σ N B O R T) = (zLpW c b u C env σ N R T)) ∧
  (∀ (b : zS) (C : zCS) (env : List zTV) (σ : Mem) (N B O : zV) (R T : zK), ((sLoop b).1.2 C env σ N B O R T) = (zLoW b C env σ N R T)) ∧
  (∀ (b : zS) (c : zC) (C : zCS) (env : List zTV) (σ : Mem) (N B O : zV) (R T : zK), ((sDo b c).1.2 C env σ N B O R T) = (zDoW b c C env σ N R T)) ∧
  (∀ (x : zPE) (C : zCS) (env : List zTV) (σ : Mem) (K T : zK), ((eP x).1.2.2 C env σ K T) = (x.1.2.2.1 env σ ∧ K (x.1.2.2.2 env σ) σ)) ∧
  (∀ (o : zO1) (x : zE) (C : zCS) (env : List zTV) (σ : Mem) (K T : zK), ((e1 o x).1.2.2 C env σ K T) = (x.1.2.2 C env σ (fun v s => o.1.2.2.2.1 v s ∧ K (o.1.2.2.2.2 v s) s) T)) ∧
  (∀ (o : zO2) (x y : zE) (C : zCS) (env : List zTV) (σ : Mem) (K T : zK), ((e2 o x y).1.2.2 C env σ K T) = (x.1.2.2 C env σ (fun v s1 => y.1.2.2 C env s1 (fun w s2 => o.1.2.2.2.1 v w s2 ∧ K (o.1.2.2.2.2 v w s2) s2) T) T)) ∧
  (∀ (x y : zPE) (C : zCS) (env : List zTV) (σ : Mem) (K T : zK), ((eBy x y).1.2.2 C env σ K T) = ((p2 oBald x y).1.2.2.1 env σ ∧ (zI8 ((p2 oBald x y).1.2.2.2 env σ) → K ((p2 oBald x y).1.2.2.2 env σ) σ))) ∧
  (∀ (y : Nat) (es : List zE) (C : zCS) (env : List zTV) (σ : Mem) (K T : zK), ((eCall y es).1.2.2 C env σ K T) = (zEsW es C env σ (fun vs s => C y vs s K T) T)) ∧
  (∀ (c : zC) (x y : zE) (C : zCS) (env : List zTV) (σ : Mem) (K T : zK), ((eIte c x y).1.2.2 C env σ K T) = (c.1.2 C env σ (fun b s => (b = true → x.1.2.2 C env s K T) ∧ (b = false → y.1.2.2 C env s K T)) T)) ∧
  (∀ (c : zC) (C : zCS) (env : List zTV) (σ : Mem) (K T : zK), ((eB c).1.2.2 C env σ K T) = (c.1.2 C env σ (fun b s => K (b2i b) s) T)) ∧
  (∀ (ty : ArrayType) (x : zPE) (C : zCS) (env : List zTV) (σ : Mem) (K T : zK), ((eNewA ty x).1.2.2 C env σ K T) = (x.1.2.2.1 env σ ∧ 0 ≤ x.1.2.2.2 env σ ∧ 0 < zAt ty ∧ zSh σ (σ 0 0).toNat = (zAt ty, (x.1.2.2.2 env σ).toNat) ∧ K (σ 0 0) (mnew σ))) ∧
  (∀ (ci y : Nat) (es : List zE) (C : zCS) (env : List zTV) (σ : Mem) (K T : zK), ((eNew ci y es).1.2.2 C env σ K T) = (zSh σ (σ 0 0).toNat = (5, ci) ∧ zEsW es C env (mnew σ) (fun vs s1 => C y (σ 0 0 :: vs) s1 (fun _ s2 => K (σ 0 0) s2) T) T)) ∧
  (∀ (C : zCS) (env : List zTV) (σ : Mem) (K T : zK), (eNewS.1.2.2 C env σ K T) = (zSh σ (σ 0 0).toNat = (5, 3) ∧ 0 < σ 0 0 ∧ K (σ 0 0) (mnew σ))) ∧
  (∀ (x : zPC) (C : zCS) (env : List zTV) (σ : Mem) (K : Bool → Mem → Prop) (T : zK), ((cP x).1.2 C env σ K T) = (x.1.2.1 env σ ∧ K (x.1.2.2 env σ) σ)) ∧
  (∀ (c : ClassFile.Cond) (x y : zE) (C : zCS) (env : List zTV) (σ : Mem) (K : Bool → Mem → Prop) (T : zK), ((cI c x y).1.2 C env σ K T) = (x.1.2.2 C env σ (fun v s1 => y.1.2.2 C env s1 (fun w s2 => K (zcb c v w) s2) T) T)) ∧
  (∀ (c : ClassFile.Cond) (x y : zE) (C : zCS) (env : List zTV) (σ : Mem) (K : Bool → Mem → Prop) (T : zK), ((cL c x y).1.2 C env σ K T) = (x.1.2.2 C env σ (fun v s1 => y.1.2.2 C env s1 (fun w s2 => K (zcb c v w) s2) T) T)) ∧
  (∀ (c : ClassFile.Cond) (x : zE) (C : zCS) (env : List zTV) (σ : Mem) (K : Bool → Mem → Prop) (T : zK), ((c0 c x).1.2 C env σ K T) = (x.1.2.2 C env σ (fun v s => K (zcb c v 0) s) T)) ∧
  (∀ (x : zC) (C : zCS) (env : List zTV) (σ : Mem) (K : Bool → Mem → Prop) (T : zK), ((cNot x).1.2 C env σ K T) = (x.1.2 C env σ (fun b s => K (!b) s) T)) ∧
  (∀ (x y : zC) (C : zCS) (env : List zTV) (σ : Mem) (K : Bool → Mem → Prop) (T : zK), ((cAnd x y).1.2 C env σ K T) = (x.1.2 C env σ (fun b s => (b = true → y.1.2 C env s K T) ∧ (b = false → K false s)) T)) ∧
  (∀ (x y : zC) (C : zCS) (env : List zTV) (σ : Mem) (K : Bool → Mem → Prop) (T : zK), ((cOr x y).1.2 C env σ K T) = (x.1.2 C env σ (fun b s => (b = true → K true s) ∧ (b = false → y.1.2 C env s K T)) T)) ∧
  (∀ (C : zCS) (env : List zTV) (σ : Mem) (k : List Int → Mem → Prop) (T : zK), (zEsW [] C env σ k T) = (k [] σ)) ∧
  (∀ (e : zE) (es : List zE) (C : zCS) (env : List zTV) (σ : Mem) (k : List Int → Mem → Prop) (T : zK), (zEsW (e :: es) C env σ k T) = (e.1.2.2 C env σ (fun v s1 => zEsW es C env s1 (fun vs s2 => k (v :: vs) s2) T) T)) ∧
  (∀ (C : zCS) (env : List zTV) (σ : Mem) (N O : zV) (R T : zK), (zGw [] C env σ N O R T) = (N env σ)) ∧
  (∀ (s : zS) (r : List zS) (C : zCS) (env : List zTV) (σ : Mem) (N O : zV) (R T : zK), (zGw (s :: r) C env σ N O R T) = (s.1.2 C env σ (fun e s => zGw r C e s N O R T) N O R T)) ∧
  (∀ (k : Nat → Prop) (d : Nat) (x : Int), (zSwW k d x []) = (k d)) ∧
  (∀ (k : Nat → Prop) (d : Nat) (x v : Int) (j : Nat) (t : List (Int × Nat)), (zSwW k d x ((v, j) :: t)) = ((x = v → k j) ∧ (x ≠ v → zSwW k d x t))) := by
  refine ⟨?_, ?_, ?_, ?_, ?_, ?_, ?_, ?_, ?_, ?_, ?_, ?_, ?_, ?_, ?_, ?_, ?_, ?_, ?_, ?_, ?_, ?_, ?_, ?_, ?_, ?_, ?_, ?_, ?_, ?_, ?_, ?_, ?_, ?_, ?_, ?_, ?_, ?_, ?_, ?_, ?_, ?_, ?_, ?_, ?_, ?_, ?_⟩ <;> intros <;> rfl
theorem zpq : (∀ (n : Int) (env : List zTV) (σ : Mem), ((pI n).1.2.2.1 env σ) = (True)) ∧
  (∀ (n : Int) (env : List zTV) (σ : Mem), ((pI n).1.2.2.2 env σ) = (n)) ∧
  (∀ (n : Int) (env : List zTV) (σ : Mem), ((pJ n).1.2.2.1 env σ) = (True)) ∧
  (∀ (n : Int) (env : List zTV) (σ : Mem), ((pJ n).1.2.2.2 env σ) = (n)) ∧
  (∀ (t k : Nat) (env : List zTV) (σ : Mem), ((pL t k).1.2.2.1 env σ) = (zHas t k env)) ∧
  (∀ (t k : Nat) (env : List zTV) (σ : Mem), ((pL t k).1.2.2.2 env σ) = (zGet k env)) ∧
  (∀ (o : Nat) (env : List zTV) (σ : Mem), ((pS o).1.2.2.1 env σ) = (True)) ∧
  (∀ (o : Nat) (env : List zTV) (σ : Mem), ((pS o).1.2.2.2 env σ) = ((o : Int))) ∧
  (∀ (o : zO1) (x : zPE) (env : List zTV) (σ : Mem), ((p1 o x).1.2.2.1 env σ) = (x.1.2.2.1 env σ ∧ o.1.2.2.2.1 (x.1.2.2.2 env σ) σ)) ∧
  (∀ (o : zO1) (x : zPE) (env : List zTV) (σ : Mem), ((p1 o x).1.2.2.2 env σ) = (o.1.2.2.2.2 (x.1.2.2.2 env σ) σ)) ∧
  (∀ (o : zO2) (x y : zPE) (env : List zTV) (σ : Mem), ((p2 o x y).1.2.2.1 env σ) = (x.1.2.2.1 env σ ∧ y.1.2.2.1 env σ ∧ o.1.2.2.2.1 (x.1.2.2.2 env σ) (y.1.2.2.2 env σ) σ)) ∧
  (∀ (o : zO2) (x y : zPE) (env : List zTV) (σ : Mem), ((p2 o x y).1.2.2.2 env σ) = (o.1.2.2.2.2 (x.1.2.2.2 env σ) (y.1.2.2.2 env σ) σ)) ∧
  (∀ (k : zPC) (x y : zPE) (env : List zTV) (σ : Mem), ((pIte k x y).1.2.2.1 env σ) = (k.1.2.1 env σ ∧ (k.1.2.2 env σ = true → x.1.2.2.1 env σ) ∧ (k.1.2.2 env σ = false → y.1.2.2.1 env σ))) ∧
  (∀ (k : zPC) (x y : zPE) (env : List zTV) (σ : Mem), ((pIte k x y).1.2.2.2 env σ) = (if k.1.2.2 env σ = true then x.1.2.2.2 env σ else y.1.2.2.2 env σ)) ∧
  (∀ (k : zPC) (env : List zTV) (σ : Mem), ((pB k).1.2.2.1 env σ) = (k.1.2.1 env σ)) ∧
  (∀ (k : zPC) (env : List zTV) (σ : Mem), ((pB k).1.2.2.2 env σ) = (b2i (k.1.2.2 env σ))) ∧
  (∀ (c : ClassFile.Cond) (x y : zPE) (env : List zTV) (σ : Mem), ((kI c x y).1.2.1 env σ) = (x.1.2.2.1 env σ ∧ y.1.2.2.1 env σ)) ∧
  (∀ (c : ClassFile.Cond) (x y : zPE) (env : List zTV) (σ : Mem), ((kI c x y).1.2.2 env σ) = (zcb c (x.1.2.2.2 env σ) (y.1.2.2.2 env σ))) ∧
  (∀ (c : ClassFile.Cond) (x y : zPE) (env : List zTV) (σ : Mem), ((kL c x y).1.2.1 env σ) = (x.1.2.2.1 env σ ∧ y.1.2.2.1 env σ)) ∧
  (∀ (c : ClassFile.Cond) (x y : zPE) (env : List zTV) (σ : Mem), ((kL c x y).1.2.2 env σ) = (zcb c (x.1.2.2.2 env σ) (y.1.2.2.2 env σ))) ∧
  (∀ (e : Bool) (x y : zPE) (env : List zTV) (σ : Mem), ((kA e x y).1.2.1 env σ) = (x.1.2.2.1 env σ ∧ y.1.2.2.1 env σ ∧ (x.1.2.2.2 env σ = 0 ∨ 5 ≤ x.1.2.2.2 env σ) ∧ (y.1.2.2.2 env σ = 0 ∨ 5 ≤ y.1.2.2.2 env σ))) ∧
  (∀ (e : Bool) (x y : zPE) (env : List zTV) (σ : Mem), ((kA e x y).1.2.2 env σ) = (zcb (zce e) (x.1.2.2.2 env σ) (y.1.2.2.2 env σ))) ∧
  (∀ (c : ClassFile.Cond) (x : zPE) (env : List zTV) (σ : Mem), ((k0 c x).1.2.1 env σ) = (x.1.2.2.1 env σ)) ∧
  (∀ (c : ClassFile.Cond) (x : zPE) (env : List zTV) (σ : Mem), ((k0 c x).1.2.2 env σ) = (zcb c (x.1.2.2.2 env σ) 0)) ∧
  (∀ (e : Bool) (x : zPE) (env : List zTV) (σ : Mem), ((kN e x).1.2.1 env σ) = (x.1.2.2.1 env σ)) ∧
  (∀ (e : Bool) (x : zPE) (env : List zTV) (σ : Mem), ((kN e x).1.2.2 env σ) = (zcb (zce e) (x.1.2.2.2 env σ) 0)) ∧
  (∀ (k : zPC) (env : List zTV) (σ : Mem), ((kNot k).1.2.1 env σ) = (k.1.2.1 env σ)) ∧
  (∀ (k : zPC) (env : List zTV) (σ : Mem), ((kNot k).1.2.2 env σ) = (!k.1.2.2 env σ)) ∧
  (∀ (x y : zPC) (env : List zTV) (σ : Mem), ((kAnd x y).1.2.1 env σ) = (x.1.2.1 env σ ∧ (x.1.2.2 env σ = true → y.1.2.1 env σ))) ∧
  (∀ (x y : zPC) (env : List zTV) (σ : Mem), ((kAnd x y).1.2.2 env σ) = (x.1.2.2 env σ && y.1.2.2 env σ)) ∧
  (∀ (x y : zPC) (env : List zTV) (σ : Mem), ((kOr x y).1.2.1 env σ) = (x.1.2.1 env σ ∧ (x.1.2.2 env σ = false → y.1.2.1 env σ))) ∧
  (∀ (x y : zPC) (env : List zTV) (σ : Mem), ((kOr x y).1.2.2 env σ) = (x.1.2.2 env σ || y.1.2.2 env σ)) ∧
  (∀ (x : Int) (σ : Mem), (oNeg.1.2.2.2.1 x σ) = (True)) ∧
  (∀ (x : Int) (σ : Mem), (oNeg.1.2.2.2.2 x σ) = (w32 (-x))) ∧
  (∀ (x : Int) (σ : Mem), (oLneg.1.2.2.2.1 x σ) = (True)) ∧
  (∀ (x : Int) (σ : Mem), (oLneg.1.2.2.2.2 x σ) = (w64 (-x))) ∧
  (∀ (x : Int) (σ : Mem), (oI2l.1.2.2.2.1 x σ) = (True)) ∧
  (∀ (x : Int) (σ : Mem), (oI2l.1.2.2.2.2 x σ) = (x)) ∧
  (∀ (x : Int) (σ : Mem), (oL2i.1.2.2.2.1 x σ) = (True)) ∧
  (∀ (x : Int) (σ : Mem), (oL2i.1.2.2.2.2 x σ) = (w32 x)) ∧
  (∀ (x : Int) (σ : Mem), (oI2b.1.2.2.2.1 x σ) = (True)) ∧
  (∀ (x : Int) (σ : Mem), (oI2b.1.2.2.2.2 x σ) = (w8 x)) ∧
  (∀ (x : Int) (σ : Mem), (oAlen.1.2.2.2.1 x σ) = (0 < x ∧ (zSh σ x.toNat).1 = 1)) ∧
  (∀ (x : Int) (σ : Mem), (oAlen.1.2.2.2.2 x σ) = (((zSh σ x.toNat).2 : Int))) ∧
  (∀ (ci f t : Nat) (x : Int) (σ : Mem), ((oGf ci f t).1.2.2.2.1 x σ) = (0 < x ∧ zSh σ x.toNat = (5, ci))) ∧
  (∀ (ci f t : Nat) (x : Int) (σ : Mem), ((oGf ci f t).1.2.2.2.2 x σ) = (σ x.toNat f)) ∧
  (∀ (x y : Int) (σ : Mem), (oAdd.1.2.2.2.1 x y σ) = (True)) ∧
  (∀ (x y : Int) (σ : Mem), (oAdd.1.2.2.2.2 x y σ) = (w32 (x + y))) ∧
  (∀ (x y : Int) (σ : Mem), (oSub.1.2.2.2.1 x y σ) = (True)) ∧
  (∀ (x y : Int) (σ : Mem), (oSub.1.2.2.2.2 x y σ) = (w32 (x - y))) ∧
  (∀ (x y : Int) (σ : Mem), (oMul.1.2.2.2.1 x y σ) = (True)) ∧
  (∀ (x y : Int) (σ : Mem), (oMul.1.2.2.2.2 x y σ) = (w32 (x * y))) ∧
  (∀ (x y : Int) (σ : Mem), (oAnd.1.2.2.2.1 x y σ) = (True)) ∧
  (∀ (x y : Int) (σ : Mem), (oAnd.1.2.2.2.2 x y σ) = (iAnd x y)) ∧
  (∀ (x y : Int) (σ : Mem), (oOr.1.2.2.2.1 x y σ) = (True)) ∧
  (∀ (x y : Int) (σ : Mem), (oOr.1.2.2.2.2 x y σ) = (iOr x y)) ∧
  (∀ (x y : Int) (σ : Mem), (oXor.1.2.2.2.1 x y σ) = (True)) ∧
  (∀ (x y : Int) (σ : Mem), (oXor.1.2.2.2.2 x y σ) = (iXor x y)) ∧
  (∀ (x y : Int) (σ : Mem), (oShl.1.2.2.2.1 x y σ) = (True)) ∧
  (∀ (x y : Int) (σ : Mem), (oShl.1.2.2.2.2 x y σ) = (iShl x y)) ∧
  (∀ (x y : Int) (σ : Mem), (oShr.1.2.2.2.1 x y σ) = (True)) ∧
  (∀ (x y : Int) (σ : Mem), (oShr.1.2.2.2.2 x y σ) = (iShr x y)) ∧
  (∀ (x y : Int) (σ : Mem), (oUshr.1.2.2.2.1 x y σ) = (True)) ∧
  (∀ (x y : Int) (σ : Mem), (oUshr.1.2.2.2.2 x y σ) = (iUshr x y)) ∧
  (∀ (x y : Int) (σ : Mem), (oLadd.1.2.2.2.1 x y σ) = (True)) ∧
  (∀ (x y : Int) (σ : Mem), (oLadd.1.2.2.2.2 x y σ) = (w64 (x + y))) ∧
  (∀ (x y : Int) (σ : Mem), (oLsub.1.2.2.2.1 x y σ) = (True)) ∧
  (∀ (x y : Int) (σ : Mem), (oLsub.1.2.2.2.2 x y σ) = (w64 (x - y))) ∧
  (∀ (x y : Int) (σ : Mem), (oLmul.1.2.2.2.1 x y σ) = (True)) ∧
  (∀ (x y : Int) (σ : Mem), (oLmul.1.2.2.2.2 x y σ) = (w64 (x * y))) ∧
  (∀ (x y : Int) (σ : Mem), (oLand.1.2.2.2.1 x y σ) = (True)) ∧
  (∀ (x y : Int) (σ : Mem), (oLand.1.2.2.2.2 x y σ) = (lAnd x y)) ∧
  (∀ (x y : Int) (σ : Mem), (oLor.1.2.2.2.1 x y σ) = (True)) ∧
  (∀ (x y : Int) (σ : Mem), (oLor.1.2.2.2.2 x y σ) = (lOr x y)) ∧
  (∀ (x y : Int) (σ : Mem), (oLshl.1.2.2.2.1 x y σ) = (True)) ∧
  (∀ (x y : Int) (σ : Mem), (oLshl.1.2.2.2.2 x y σ) = (lShl x y)) ∧
  (∀ (x y : Int) (σ : Mem), (oLshr.1.2.2.2.1 x y σ) = (True)) ∧
  (∀ (x y : Int) (σ : Mem), (oLshr.1.2.2.2.2 x y σ) = (lShr x y)) ∧
  (∀ (x y : Int) (σ : Mem), (oDiv.1.2.2.2.1 x y σ) = (y ≠ 0)) ∧
  (∀ (x y : Int) (σ : Mem), (oDiv.1.2.2.2.2 x y σ) = (w32 (x.tdiv y))) ∧
  (∀ (x y : Int) (σ : Mem), (oRem.1.2.2.2.1 x y σ) = (y ≠ 0)) ∧
  (∀ (x y : Int) (σ : Mem), (oRem.1.2.2.2.2 x y σ) = (x.tmod y)) ∧
  (∀ (x y : Int) (σ : Mem), (oLdiv.1.2.2.2.1 x y σ) = (y ≠ 0)) ∧
  (∀ (x y : Int) (σ : Mem), (oLdiv.1.2.2.2.2 x y σ) = (w64 (x.tdiv y))) ∧
  (∀ (x y : Int) (σ : Mem), (oLrem.1.2.2.2.1 x y σ) = (y ≠ 0)) ∧
  (∀ (x y : Int) (σ : Mem), (oLrem.1.2.2.2.2 x y σ) = (x.tmod y)) ∧
  (∀ (x y : Int) (σ : Mem), (oIald.1.2.2.2.1 x y σ) = (0 < x ∧ (zSh σ x.toNat).1 = 1 ∧ zIn y (zSh σ x.toNat).2)) ∧
  (∀ (x y : Int) (σ : Mem), (oIald.1.2.2.2.2 x y σ) = (σ x.toNat y.toNat)) ∧
  (∀ (x y : Int) (σ : Mem), (oLald.1.2.2.2.1 x y σ) = (0 < x ∧ (zSh σ x.toNat).1 = 4 ∧ zIn y (zSh σ x.toNat).2)) ∧
  (∀ (x y : Int) (σ : Mem), (oLald.1.2.2.2.2 x y σ) = (σ x.toNat y.toNat)) ∧
  (∀ (x y : Int) (σ : Mem), (oBald.1.2.2.2.1 x y σ) = (0 < x ∧ (zSh σ x.toNat).1 = 2 ∧ zIn y (zSh σ x.toNat).2)) ∧
  (∀ (x y : Int) (σ : Mem), (oBald.1.2.2.2.2 x y σ) = (σ x.toNat y.toNat)) ∧
  (∀ (x y : Int) (σ : Mem), (oZald.1.2.2.2.1 x y σ) = (0 < x ∧ (zSh σ x.toNat).1 = 3 ∧ zIn y (zSh σ x.toNat).2)) ∧
  (∀ (x y : Int) (σ : Mem), (oZald.1.2.2.2.2 x y σ) = (σ x.toNat y.toNat)) ∧
  (∀ (x y : Int), (zcb .eq x y) = (decide (x = y))) ∧
  (∀ (x y : Int), (zcb .ne x y) = (!decide (x = y))) ∧
  (∀ (x y : Int), (zcb .lt x y) = (decide (x < y))) ∧
  (∀ (x y : Int), (zcb .ge x y) = (decide (y ≤ x))) ∧
  (∀ (x y : Int), (zcb .gt x y) = (decide (y < x))) ∧
  (∀ (x y : Int), (zcb .le x y) = (decide (x ≤ y))) ∧
  (zce true = .eq) ∧
  (zce false = .ne) := by
  refine ⟨?_, ?_, ?_, ?_, ?_, ?_, ?_, ?_, ?_, ?_, ?_, ?_, ?_, ?_, ?_, ?_, ?_, ?_, ?_, ?_, ?_, ?_, ?_, ?_, ?_, ?_, ?_, ?_, ?_, ?_, ?_, ?_, ?_, ?_, ?_, ?_, ?_, ?_, ?_, ?_, ?_, ?_, ?_, ?_, ?_, ?_, ?_, ?_, ?_, ?_, ?_, ?_, ?_, ?_, ?_, ?_, ?_, ?_, ?_, ?_, ?_, ?_, ?_, ?_, ?_, ?_, ?_, ?_, ?_, ?_, ?_, ?_, ?_, ?_, ?_, ?_, ?_, ?_, ?_, ?_, ?_, ?_, ?_, ?_, ?_, ?_, ?_, ?_, ?_, ?_, ?_, ?_, ?_, ?_, ?_, ?_, ?_, ?_, ?_, ?_, ?_, ?_⟩ <;> intros <;> rfl
theorem zgq : (∀ (t : Nat) (x : Int) (r : List zTV), zGet 0 ((t, x) :: r) = x) ∧
  (∀ (a0 : zTV) (t : Nat) (x : Int) (r : List zTV), zGet 1 (a0 :: (t, x) :: r) = x) ∧
  (∀ (a0 a1 : zTV) (t : Nat) (x : Int) (r : List zTV), zGet 2 (a0 :: a1 :: (t, x) :: r) = x) ∧
  (∀ (a0 a1 a2 : zTV) (t : Nat) (x : Int) (r : List zTV), zGet 3 (a0 :: a1 :: a2 :: (t, x) :: r) = x) ∧
  (∀ (a0 a1 a2 a3 : zTV) (t : Nat) (x : Int) (r : List zTV), zGet 4 (a0 :: a1 :: a2 :: a3 :: (t, x) :: r) = x) ∧
  (∀ (a0 a1 a2 a3 a4 : zTV) (t : Nat) (x : Int) (r : List zTV), zGet 5 (a0 :: a1 :: a2 :: a3 :: a4 :: (t, x) :: r) = x) ∧
  (∀ (a0 a1 a2 a3 a4 a5 : zTV) (t : Nat) (x : Int) (r : List zTV), zGet 6 (a0 :: a1 :: a2 :: a3 :: a4 :: a5 :: (t, x) :: r) = x) ∧
  (∀ (a0 a1 a2 a3 a4 a5 a6 : zTV) (t : Nat) (x : Int) (r : List zTV), zGet 7 (a0 :: a1 :: a2 :: a3 :: a4 :: a5 :: a6 :: (t, x) :: r) = x) ∧
  (∀ (a0 a1 a2 a3 a4 a5 a6 a7 : zTV) (t : Nat) (x : Int) (r : List zTV), zGet 8 (a0 :: a1 :: a2 :: a3 :: a4 :: a5 :: a6 :: a7 :: (t, x) :: r) = x) ∧
  (∀ (a0 a1 a2 a3 a4 a5 a6 a7 a8 : zTV) (t : Nat) (x : Int) (r : List zTV), zGet 9 (a0 :: a1 :: a2 :: a3 :: a4 :: a5 :: a6 :: a7 :: a8 :: (t, x) :: r) = x) ∧
  (∀ (a0 a1 a2 a3 a4 a5 a6 a7 a8 a9 : zTV) (t : Nat) (x : Int) (r : List zTV), zGet 10 (a0 :: a1 :: a2 :: a3 :: a4 :: a5 :: a6 :: a7 :: a8 :: a9 :: (t, x) :: r) = x) ∧
  (∀ (a0 a1 a2 a3 a4 a5 a6 a7 a8 a9 a10 : zTV) (t : Nat) (x : Int) (r : List zTV), zGet 11 (a0 :: a1 :: a2 :: a3 :: a4 :: a5 :: a6 :: a7 :: a8 :: a9 :: a10 :: (t, x) :: r) = x) ∧
  (∀ (a0 a1 a2 a3 a4 a5 a6 a7 a8 a9 a10 a11 : zTV) (t : Nat) (x : Int) (r : List zTV), zGet 12 (a0 :: a1 :: a2 :: a3 :: a4 :: a5 :: a6 :: a7 :: a8 :: a9 :: a10 :: a11 :: (t, x) :: r) = x) := by
  refine ⟨?_, ?_, ?_, ?_, ?_, ?_, ?_, ?_, ?_, ?_, ?_, ?_, ?_⟩ <;> intros <;> rfl
theorem zhq : (∀ (t : Nat) (x : Int) (r : List zTV), zHas t 0 ((t, x) :: r) = True) ∧
  (∀ (a0 : zTV) (t : Nat) (x : Int) (r : List zTV), zHas t 1 (a0 :: (t, x) :: r) = True) ∧
  (∀ (a0 a1 : zTV) (t : Nat) (x : Int) (r : List zTV), zHas t 2 (a0 :: a1 :: (t, x) :: r) = True) ∧
  (∀ (a0 a1 a2 : zTV) (t : Nat) (x : Int) (r : List zTV), zHas t 3 (a0 :: a1 :: a2 :: (t, x) :: r) = True) ∧
  (∀ (a0 a1 a2 a3 : zTV) (t : Nat) (x : Int) (r : List zTV), zHas t 4 (a0 :: a1 :: a2 :: a3 :: (t, x) :: r) = True) ∧
  (∀ (a0 a1 a2 a3 a4 : zTV) (t : Nat) (x : Int) (r : List zTV), zHas t 5 (a0 :: a1 :: a2 :: a3 :: a4 :: (t, x) :: r) = True) ∧
  (∀ (a0 a1 a2 a3 a4 a5 : zTV) (t : Nat) (x : Int) (r : List zTV), zHas t 6 (a0 :: a1 :: a2 :: a3 :: a4 :: a5 :: (t, x) :: r) = True) ∧
  (∀ (a0 a1 a2 a3 a4 a5 a6 : zTV) (t : Nat) (x : Int) (r : List zTV), zHas t 7 (a0 :: a1 :: a2 :: a3 :: a4 :: a5 :: a6 :: (t, x) :: r) = True) ∧
  (∀ (a0 a1 a2 a3 a4 a5 a6 a7 : zTV) (t : Nat) (x : Int) (r : List zTV), zHas t 8 (a0 :: a1 :: a2 :: a3 :: a4 :: a5 :: a6 :: a7 :: (t, x) :: r) = True) ∧
  (∀ (a0 a1 a2 a3 a4 a5 a6 a7 a8 : zTV) (t : Nat) (x : Int) (r : List zTV), zHas t 9 (a0 :: a1 :: a2 :: a3 :: a4 :: a5 :: a6 :: a7 :: a8 :: (t, x) :: r) = True) ∧
  (∀ (a0 a1 a2 a3 a4 a5 a6 a7 a8 a9 : zTV) (t : Nat) (x : Int) (r : List zTV), zHas t 10 (a0 :: a1 :: a2 :: a3 :: a4 :: a5 :: a6 :: a7 :: a8 :: a9 :: (t, x) :: r) = True) ∧
  (∀ (a0 a1 a2 a3 a4 a5 a6 a7 a8 a9 a10 : zTV) (t : Nat) (x : Int) (r : List zTV), zHas t 11 (a0 :: a1 :: a2 :: a3 :: a4 :: a5 :: a6 :: a7 :: a8 :: a9 :: a10 :: (t, x) :: r) = True) ∧
  (∀ (a0 a1 a2 a3 a4 a5 a6 a7 a8 a9 a10 a11 : zTV) (t : Nat) (x : Int) (r : List zTV), zHas t 12 (a0 :: a1 :: a2 :: a3 :: a4 :: a5 :: a6 :: a7 :: a8 :: a9 :: a10 :: a11 :: (t, x) :: r) = True) := by
  refine ⟨?_, ?_, ?_, ?_, ?_, ?_, ?_, ?_, ?_, ?_, ?_, ?_, ?_⟩ <;> intros <;> exact eq_true ⟨_, rfl⟩
theorem eq_sto : (∀ (v x : zTV) (t : List zTV), sto 0 v (x :: t) = v :: t) ∧ (∀ (v x : zTV) (t : List zTV), sto 1 v (x :: t) = (if x.1 = 2 then (0, 0) else x) :: sto 0 v t) ∧ (∀ (n : Nat) (v x : zTV) (t : List zTV), sto (n + 2) v (x :: t) = x :: sto (n + 1) v t) := ⟨fun _ _ _ => rfl, fun _ _ _ => rfl, fun _ _ _ _ => rfl⟩
theorem eq_kill : (∀ n, zKill n [] = []) ∧ (∀ (x : zTV) (t : List zTV), zKill 0 (x :: t) = (0, 0) :: zKill 0 t) ∧ (∀ (n : Nat) (x : zTV) (t : List zTV), zKill (n + 1) (x :: t) = x :: zKill n t) := ⟨fun n => by cases n <;> rfl, fun _ _ => rfl, fun _ _ _ => rfl⟩
theorem eq_mset (σ : Mem) (o k : Nat) (v : Int) (a b : Nat) : mset σ o k v a b = if a = o then (if b = k then v else σ a b) else σ a b := rfl
theorem eq_zSto (t k : Nat) (v : Int) (env : List zTV) : zSto t k v env = if t = 2 then sto k (2, v) (sto (k + 1) (0, 0) env) else sto k (t, v) env := rfl
theorem eq_zGd : (∀ v, zGd 1 v = True) ∧ (∀ v, zGd 4 v = True) ∧ (∀ v, zGd 2 v = zI8 v) ∧ (∀ v, zGd 3 v = zB v) := ⟨fun _ => by simp [zGd], fun _ => by simp [zGd], fun _ => by simp [zGd], fun _ => by simp [zGd]⟩
theorem zsq : (∀ σ, zSh σ 1 = (2, 4)) ∧
  (∀ σ, zSh σ 2 = (2, 5)) ∧
  (∀ σ, zSh σ 3 = (5, 7)) ∧
  (∀ σ, zSh σ 5 = (5, 0)) ∧
  (∀ σ, zSh σ 6 = (2, 2000)) ∧
  (∀ σ, zSh σ 7 = (5, 2)) ∧
  (∀ σ, zSh σ 8 = (5, 4)) ∧
  (∀ σ, zSh σ 9 = (2, 2000)) ∧
  (∀ σ, zSh σ 10 = (1, 2002)) ∧
  (∀ σ, zSh σ 11 = (1, 2002)) ∧
  (∀ σ, zSh σ 12 = (1, 2002)) ∧
  (∀ σ, zSh σ 13 = (5, 3)) ∧
  (∀ σ, zSh σ 14 = (1, 1100)) ∧
  (∀ σ, zSh σ 15 = (1, 1100)) ∧
  (∀ σ, zSh σ 16 = (5, 5)) ∧
  (∀ σ, zSh σ 17 = (1, 4096)) ∧
  (∀ σ, zSh σ 18 = (1, 4096)) ∧
  (∀ σ, zSh σ 19 = (1, 4096)) ∧
  (∀ σ, zSh σ 20 = (1, 4096)) ∧
  (∀ σ, zSh σ 21 = (1, 4096)) ∧
  (∀ σ, zSh σ 22 = (1, 4096)) ∧
  (∀ σ, zSh σ 23 = (1, 4096)) ∧
  (∀ σ, zSh σ 24 = (1, 4096)) ∧
  (∀ σ, zSh σ 25 = (2, 8400)) ∧
  (∀ σ, zSh σ 26 = (1, 700)) ∧
  (∀ σ, zSh σ 27 = (2, 492)) ∧
  (∀ σ, zSh σ 28 = (1, 41)) ∧
  (∀ σ, zSh σ 29 = (1, 41)) ∧
  (∀ σ, zSh σ 30 = (1, 41)) ∧
  (∀ σ, zSh σ 31 = (5, 5)) ∧
  (∀ σ, zSh σ 32 = (1, 4096)) ∧
  (∀ σ, zSh σ 33 = (1, 4096)) ∧
  (∀ σ, zSh σ 34 = (1, 4096)) ∧
  (∀ σ, zSh σ 35 = (1, 4096)) ∧
  (∀ σ, zSh σ 36 = (1, 4096)) ∧
  (∀ σ, zSh σ 37 = (1, 4096)) ∧
  (∀ σ, zSh σ 38 = (1, 4096)) ∧
  (∀ σ, zSh σ 39 = (1, 4096)) ∧
  (∀ σ, zSh σ 40 = (2, 8400)) ∧
  (∀ σ, zSh σ 41 = (1, 700)) ∧
  (∀ σ, zSh σ 42 = (2, 492)) ∧
  (∀ σ, zSh σ 43 = (1, 41)) ∧
  (∀ σ, zSh σ 44 = (1, 41)) ∧
  (∀ σ, zSh σ 45 = (1, 41)) ∧
  (∀ σ, zSh σ 46 = (5, 5)) ∧
  (∀ σ, zSh σ 47 = (1, 4096)) ∧
  (∀ σ, zSh σ 48 = (1, 4096)) ∧
  (∀ σ, zSh σ 49 = (1, 4096)) ∧
  (∀ σ, zSh σ 50 = (1, 4096)) ∧
  (∀ σ, zSh σ 51 = (1, 4096)) ∧
  (∀ σ, zSh σ 52 = (1, 4096)) ∧
  (∀ σ, zSh σ 53 = (1, 4096)) ∧
  (∀ σ, zSh σ 54 = (1, 4096)) ∧
  (∀ σ, zSh σ 55 = (2, 8400)) ∧
  (∀ σ, zSh σ 56 = (1, 700)) ∧
  (∀ σ, zSh σ 57 = (2, 492)) ∧
  (∀ σ, zSh σ 58 = (1, 41)) ∧
  (∀ σ, zSh σ 59 = (1, 41)) ∧
  (∀ σ, zSh σ 60 = (1, 41)) ∧
  (∀ σ, zSh σ 61 = (5, 5)) ∧
  (∀ σ, zSh σ 62 = (1, 4096)) ∧
  (∀ σ, zSh σ 63 = (1, 4096)) ∧
  (∀ σ, zSh σ 64 = (1, 4096)) ∧
  (∀ σ, zSh σ 65 = (1, 4096)) ∧
  (∀ σ, zSh σ 66 = (1, 4096)) ∧
  (∀ σ, zSh σ 67 = (1, 4096)) ∧
  (∀ σ, zSh σ 68 = (1, 4096)) ∧
  (∀ σ, zSh σ 69 = (1, 4096)) ∧
  (∀ σ, zSh σ 70 = (2, 8400)) ∧
  (∀ σ, zSh σ 71 = (1, 700)) ∧
  (∀ σ, zSh σ 72 = (2, 492)) ∧
  (∀ σ, zSh σ 73 = (1, 41)) ∧
  (∀ σ, zSh σ 74 = (1, 41)) ∧
  (∀ σ, zSh σ 75 = (1, 41)) ∧
  (∀ σ, zSh σ 76 = (5, 1)) ∧
  (∀ σ, zSh σ 77 = (5, 3)) ∧
  (∀ σ, zSh σ 78 = (4, 30000)) ∧
  (∀ σ, zSh σ 79 = (4, 30000)) ∧
  (∀ σ, zSh σ 80 = (1, 41)) ∧
  (∀ σ, zSh σ 81 = (4, 41)) ∧
  (∀ σ, zSh σ 82 = (4, 40)) ∧
  (∀ σ, zSh σ 83 = (4, 9600)) ∧
  (∀ σ, zSh σ 84 = (1, 400)) ∧
  (∀ σ, zSh σ 85 = (1, 400)) ∧
  (∀ σ, zSh σ 86 = (1, 401)) ∧
  (∀ σ, zSh σ 87 = (2, 1000)) ∧
  (∀ σ, zSh σ 88 = (4, 16)) ∧
  (∀ σ, zSh σ 89 = (3, 400)) ∧
  (∀ σ, zSh σ 90 = (5, 6)) ∧
  (∀ σ, zSh σ 91 = (2, 2000)) ∧
  (∀ σ, zSh σ 92 = (2, 8011)) ∧
  (∀ σ, zSh σ 93 = (1, 4)) ∧
  (∀ σ, zSh σ 94 = (1, 2010)) ∧
  (∀ σ, zSh σ 95 = (1, 2010)) ∧
  (∀ σ, zSh σ 96 = (1, 2010)) ∧
  (∀ σ, zSh σ 97 = (1, 16000)) ∧
  (∀ σ, zSh σ 98 = (1, 16000)) ∧
  (∀ σ, zSh σ 99 = (1, 16000)) ∧
  (∀ σ, zSh σ 100 = (1, 16000)) ∧
  (∀ σ, zSh σ 101 = (1, 16000)) ∧
  (∀ σ, zSh σ 102 = (1, 16000)) ∧
  (∀ σ, zSh σ 103 = (1, 16000)) ∧
  (∀ σ, zSh σ 104 = (1, 16000)) ∧
  (∀ σ, zSh σ 105 = (1, 2000)) ∧
  (∀ σ, zSh σ 106 = (1, 16000)) ∧
  (∀ σ, zSh σ 107 = (1, 2100)) ∧
  (∀ σ, zSh σ 108 = (1, 2100)) ∧
  (∀ σ, zSh σ 109 = (1, 40)) ∧
  (∀ σ, zSh σ 110 = (1, 3200)) ∧
  (∀ σ, zSh σ 111 = (1, 3200)) ∧
  (∀ σ, zSh σ 112 = (1, 3200)) ∧
  (∀ σ, zSh σ 113 = (4, 51200)) ∧
  (∀ σ, zSh σ 114 = (3, 3200)) ∧
  (∀ σ, zSh σ 115 = (1, 3200)) ∧
  (∀ σ, zSh σ 116 = (1, 3200)) ∧
  (∀ σ, zSh σ 117 = (1, 40)) ∧
  (∀ σ, zSh σ 118 = (4, 40)) ∧
  (∀ σ, zSh σ 119 = (1, 400)) ∧
  (∀ σ, zSh σ 120 = (1, 400)) ∧
  (∀ σ, zSh σ 121 = (1, 400)) ∧
  (∀ σ, zSh σ 122 = (1, 400)) ∧
  (∀ σ, zSh σ 123 = (1, 400)) ∧
  (∀ σ, zSh σ 124 = (4, 6400)) ∧
  (∀ σ, zSh σ 125 = (4, 16)) ∧
  (∀ σ, zSh σ 126 = (4, 16)) ∧
  (∀ σ, zSh σ 127 = (4, 16)) ∧
  (∀ σ, zSh σ 128 = (4, 16)) ∧
  (∀ σ, zSh σ 129 = (2, 1000)) := by
  refine ⟨?_, ?_, ?_, ?_, ?_, ?_, ?_, ?_, ?_, ?_, ?_, ?_, ?_, ?_, ?_, ?_, ?_, ?_, ?_, ?_, ?_, ?_, ?_, ?_, ?_, ?_, ?_, ?_, ?_, ?_, ?_, ?_, ?_, ?_, ?_, ?_, ?_, ?_, ?_, ?_, ?_, ?_, ?_, ?_, ?_, ?_, ?_, ?_, ?_, ?_, ?_, ?_, ?_, ?_, ?_, ?_, ?_, ?_, ?_, ?_, ?_, ?_, ?_, ?_, ?_, ?_, ?_, ?_, ?_, ?_, ?_, ?_, ?_, ?_, ?_, ?_, ?_, ?_, ?_, ?_, ?_, ?_, ?_, ?_, ?_, ?_, ?_, ?_, ?_, ?_, ?_, ?_, ?_, ?_, ?_, ?_, ?_, ?_, ?_, ?_, ?_, ?_, ?_, ?_, ?_, ?_, ?_, ?_, ?_, ?_, ?_, ?_, ?_, ?_, ?_, ?_, ?_, ?_, ?_, ?_, ?_, ?_, ?_, ?_, ?_, ?_, ?_, ?_⟩ <;> intros <;> rfl
theorem zCallD_eq {d y : Nat} {as : List Int} {σ : Mem} {R T : zK} (h1 : y < 238) (h2 : y ≠ 233) (h3 : as.length = (tArgs y).length) : zCallD (d + 1) y as σ R T = (jRcv y as σ ∧ (zBd y).1.2 (zCallD d) (zEnv0 y as) σ zF zF zF R (if zFree y = true then T else zFk)) := propext ⟨fun h => ⟨h.1.2.2, h.2.2⟩, fun h => ⟨⟨h1, h2, h.1⟩, h3, h.2⟩⟩
theorem jRcv_in {y : Nat} {o : Int} {t : List Int} {σ : Mem} (h : jSt y = false) : jRcv y (o :: t) σ = (0 < o ∧ zSh σ o.toNat = (5, jKc y)) := propext ⟨fun q => q.elim (fun e => absurd (h.symm.trans e) (by decide)) (fun ⟨_, _, e, q⟩ => by cases e; exact q), fun q => Or.inr ⟨_, _, rfl, q⟩⟩
theorem jRcv_st {y : Nat} {as : List Int} {σ : Mem} (h : jSt y = true) : jRcv y as σ = True := eq_true (Or.inl h)
