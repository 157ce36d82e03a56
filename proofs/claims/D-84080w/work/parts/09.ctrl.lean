-- ## calls as statements, ends
def sCall (y : Nat) (es : List zE) : zS := ⟨(zS0 true (fun cx pc => (zCallC cx y es 0 pc).bind (fun q => if tRet y = 0 then some q else if zTag (tRet y) = 1 ∨ zTag (tRet y) = 3 then zI1 cx q (fun i => decide (i = .pop)) else none)), fun C env σ N _ _ _ T => zCallW y es C env σ (fun _ σ' => N env σ') T),
  fun _ _ _ _ _ _ _ _ _ _ _ _ _ _ hC hN _ _ _ hT h => zCallW_mono _ _ _ _ _ _ _ _ hC (fun _ _ q => hN _ _ q) hT h, by
  intro cx i o h
  dsimp only at h
  obtain ⟨p, h1, rfl, ex⟩ := zS0_spec h
  obtain ⟨q, h2, h3⟩ := Option.bind_eq_some_iff.mp h1
  obtain ⟨l1, s1⟩ := zCallC_spec h2
  split at h3
  · next h0 =>
    have e := Option.some.inj h3
    subst e
    refine ⟨l1, fun C hC env env1 σ N B O R Ts T hs hw hN _ _ kt => ?_⟩
    dsimp only at kt
    refine ex C hC R T env1 σ (s1 C hC env env1 [] σ _ Ts R T rfl hs hw (fun v σ' hv => ?_) (fun q' o' σ' a1 a2 a3 => kt q' env1 o' σ' a1 a2 zKp.rf a3))
    rw [if_pos h0]
    exact (hN _ _ _ hs zKp.rf hv).1 rfl
  · next h0 =>
    split at h3
    · next h4 =>
      obtain ⟨i', len, hi, hf, rfl⟩ := zI1_spec h3
      refine ⟨by dsimp only; omega, fun C hC env env1 σ N B O R Ts T hs hw hN _ _ kt => ?_⟩
      dsimp only at kt
      refine ex C hC R T env1 σ (s1 C hC env env1 [] σ _ Ts R T rfl hs hw (fun v σ' hv => ?_) (fun q' o' σ' a1 a2 a3 => kt q' env1 o' σ' a1 (by omega) zKp.rf a3))
      rw [if_neg h0]
      cases of_decide_eq_true hf
      exact zRun_step hC hi ⟨h4, (hN _ _ _ hs zKp.rf hv).1 rfl⟩
    · cases h3⟩
def sSup : zS := ⟨(zS0 true (fun cx pc => (zI1 cx pc (zIsLd 3 0)).bind (fun q => zI1 cx q (zIsSp cx 1000))), fun _ env σ N _ _ _ _ => zHas 3 0 env ∧ 0 < zGet 0 env ∧ N env σ),
  fun _ _ _ _ _ _ _ _ _ _ _ _ _ _ hC hN _ _ _ hT h => ⟨h.1, h.2.1, hN _ _ h.2.2⟩, by
  intro cx i o h
  dsimp only at h
  obtain ⟨p, h1, rfl, ex⟩ := zS0_spec h
  obtain ⟨q, h2, h3⟩ := Option.bind_eq_some_iff.mp h1
  obtain ⟨i', len, hi, hf, rfl⟩ := zI1_spec h3
  obtain ⟨l1, s1⟩ := (pL 3 0).2 cx i.1 q h2
  refine ⟨by dsimp only; omega, fun C hC env env1 σ N B O R Ts T hs hw hN _ _ kt => ex C hC R T env1 σ (s1 C hC env env1 [] σ R T hs hw.1 (zRun_step hC hi ?_))⟩
  unfold zIsSp at hf
  split at hf
  · refine ⟨1000, of_decide_eq_true hf, ?_⟩
    rw [if_pos rfl]
    exact ⟨rfl, hw.2.1, rfl, (hN _ _ _ hs zKp.rf hw.2.2).1 rfl⟩
  · cases hf⟩
def sCpy (a i b j n : zPE) : zS := ⟨(zS0 true (fun cx pc => if a.1.2.1 = 3 ∧ i.1.2.1 = 1 ∧ b.1.2.1 = 3 ∧ j.1.2.1 = 1 ∧ n.1.2.1 = 1 then (a.1.1 cx pc).bind (fun q => (i.1.1 cx q).bind (fun q => (b.1.1 cx q).bind (fun q => (j.1.1 cx q).bind (fun q => (n.1.1 cx q).bind (fun q => zI1 cx q (fun x => match x with
      | .invokestatic k => decide (tMeth cx.1 k = some 1002)
      | _ => false)))))) else none),
    fun _ env σ N _ _ _ _ => (a.1.2.2.1 env σ ∧ i.1.2.2.1 env σ ∧ b.1.2.2.1 env σ ∧ j.1.2.2.1 env σ ∧ n.1.2.2.1 env σ) ∧ (fun (a i b j c : Int) => 4 < a ∧ 4 < b ∧ a ≠ b ∧ 0 ≤ i ∧ 0 ≤ j ∧ 0 ≤ c ∧ (zSh σ a.toNat).1 = 2 ∧ (zSh σ b.toNat).1 = 2 ∧ i + c ≤ ((zSh σ a.toNat).2 : Int) ∧ j + c ≤ ((zSh σ b.toNat).2 : Int) ∧ N env (mcpy σ a.toNat i.toNat b.toNat j.toNat c.toNat)) (a.1.2.2.2 env σ) (i.1.2.2.2 env σ) (b.1.2.2.2 env σ) (j.1.2.2.2 env σ) (n.1.2.2.2 env σ)),
  fun _ _ _ _ _ _ _ _ _ _ _ _ _ _ hC hN _ _ _ hT h => ⟨h.1, h.2.1, h.2.2.1, h.2.2.2.1, h.2.2.2.2.1, h.2.2.2.2.2.1, h.2.2.2.2.2.2.1, h.2.2.2.2.2.2.2.1, h.2.2.2.2.2.2.2.2.1, h.2.2.2.2.2.2.2.2.2.1, h.2.2.2.2.2.2.2.2.2.2.1, hN _ _ h.2.2.2.2.2.2.2.2.2.2.2⟩, by
  intro cx io o h
  dsimp only at h
  obtain ⟨p, h1, rfl, ex⟩ := zS0_spec h
  split at h1
  · next ht =>
    obtain ⟨t1, t2, t3, t4, t5⟩ := ht
    obtain ⟨q1, g1, h1⟩ := Option.bind_eq_some_iff.mp h1
    obtain ⟨q2, g2, h1⟩ := Option.bind_eq_some_iff.mp h1
    obtain ⟨q3, g3, h1⟩ := Option.bind_eq_some_iff.mp h1
    obtain ⟨q4, g4, h1⟩ := Option.bind_eq_some_iff.mp h1
    obtain ⟨q5, g5, h1⟩ := Option.bind_eq_some_iff.mp h1
    obtain ⟨i', len, hi, hf, rfl⟩ := zI1_spec h1
    obtain ⟨l1, s1⟩ := a.2 cx io.1 q1 g1
    obtain ⟨l2, s2⟩ := i.2 cx q1 q2 g2
    obtain ⟨l3, s3⟩ := b.2 cx q2 q3 g3
    obtain ⟨l4, s4⟩ := j.2 cx q3 q4 g4
    obtain ⟨l5, s5⟩ := n.2 cx q4 q5 g5
    refine ⟨by dsimp only; omega, fun C hC env env1 σ N B O R Ts T hs hw hN _ _ kt => ex C hC R T env1 σ ?_⟩
    obtain ⟨⟨o1, o2, o3, o4, o5⟩, hw⟩ := hw
    refine s1 C hC env env1 _ σ R T hs o1 (s2 C hC env env1 _ σ R T hs o2 (s3 C hC env env1 _ σ R T hs o3 (s4 C hC env env1 _ σ R T hs o4 (s5 C hC env env1 _ σ R T hs o5 (zRun_step hC hi ?_)))))
    rw [t1, t2, t3, t4, t5]
    split at hf
    · refine ⟨1002, of_decide_eq_true hf, ?_⟩
      rw [if_pos rfl]
      obtain ⟨w1, w2, w3, w4, w5, w6, w7, w8, w9, w10, w11⟩ := hw
      exact ⟨rfl, w1, w2, w3, w4, w5, w6, w7, w8, w9, w10, (hN _ _ _ hs zKp.rf w11).1 rfl⟩
    · cases hf
  · cases h1⟩
def sRet0 : zS := ⟨(zS0 false (fun cx pc => if cx.2.2.1 = 0 then zI1 cx pc (fun i => decide (i = .return_)) else none), fun _ _ σ _ _ _ R _ => R 0 σ),
  fun _ _ _ _ _ _ _ _ _ _ _ _ _ _ _ _ _ _ hR _ h => hR _ _ h, by
  intro cx i o h
  dsimp only at h
  obtain ⟨p, h1, rfl, ex⟩ := zS0_spec h
  split at h1
  · next h0 =>
    obtain ⟨i', len, hi, hf, rfl⟩ := zI1_spec h1
    refine ⟨Nat.le_add_right _ _, fun C hC env env1 σ N B O R Ts T hs hw hN _ _ kt => ex C hC R T env1 σ (zRun_step hC hi ?_)⟩
    cases of_decide_eq_true hf
    exact ⟨h0, rfl, hw⟩
  · cases h1⟩
def zIsRet (t : Nat) (i : Instr) : Bool := match i with
  | .ireturn => decide (t = 1) | .lreturn => decide (t = 2) | .areturn => decide (t = 3) | _ => false
/-- rt: what the method returns (4: boolean) -/
def sRet (rt : Nat) (e : zE) : zS := ⟨(zS0 false (fun cx pc => if cx.2.2.1 = rt ∧ e.1.2.1 = zTag rt then (e.1.1 cx 0 pc).bind (fun q => zI1 cx q (zIsRet (zTag rt))) else none), fun C env σ _ _ _ R T => e.1.2.2 C env σ (fun v σ' => (rt = 4 → zB v) ∧ R v σ') T),
  fun _ _ _ _ _ _ _ _ _ _ _ _ _ _ hC _ _ _ hR hT h => e.2.1 _ _ _ _ _ _ _ _ hC (fun _ _ q => ⟨q.1, hR _ _ q.2⟩) hT h, by
  intro cx i o h
  dsimp only at h
  obtain ⟨p, h1, rfl, ex⟩ := zS0_spec h
  split at h1
  · next h0 =>
    obtain ⟨q, h2, h3⟩ := Option.bind_eq_some_iff.mp h1
    obtain ⟨i', len, hi, hf, rfl⟩ := zI1_spec h3
    obtain ⟨l1, s1⟩ := e.2.2 cx 0 i.1 q h2
    refine ⟨by dsimp only; omega, fun C hC env env1 σ N B O R Ts T hs hw hN _ _ kt => ?_⟩
    dsimp only at kt
    refine ex C hC R T env1 σ (s1 C hC env env1 [] σ _ Ts R T rfl hs hw (fun v σ' hv => zRun_step hC hi ?_) (fun q' o' σ' a1 a2 a3 => kt q' env1 o' σ' a1 (by omega) zKp.rf a3))
    rw [h0.2]
    unfold zIsRet at hf
    split at hf
    · have e := of_decide_eq_true hf
      refine ⟨e, rfl, ?_, hv.2⟩
      rw [h0.1]
      unfold zTag at e
      split at e
      · next h4 => exact Or.inr ⟨h4, hv.1 h4⟩
      · exact Or.inl e
    · have e := of_decide_eq_true hf
      refine ⟨e, rfl, ?_, hv.2⟩
      rw [h0.1]
      unfold zTag at e
      split at e
      · cases e
      · exact e
    · have e := of_decide_eq_true hf
      refine ⟨e, rfl, ?_, hv.2⟩
      rw [h0.1]
      unfold zTag at e
      split at e
      · cases e
      · exact e
    · cases hf
  · cases h1⟩
def sThr (e : zE) : zS := ⟨(zS0 false (fun cx pc => if e.1.2.1 = 3 then (e.1.1 cx 0 pc).bind (fun q => zI1 cx q (fun i => decide (i = .athrow))) else none), fun C env σ _ _ _ _ T => e.1.2.2 C env σ (fun v σ' => 0 < v ∧ T v σ') T),
  fun _ _ _ _ _ _ _ _ _ _ _ _ _ _ hC _ _ _ hR hT h => e.2.1 _ _ _ _ _ _ _ _ hC (fun _ _ q => ⟨q.1, hT _ _ q.2⟩) hT h, by
  intro cx i o h
  dsimp only at h
  obtain ⟨p, h1, rfl, ex⟩ := zS0_spec h
  split at h1
  · next h0 =>
    obtain ⟨q, h2, h3⟩ := Option.bind_eq_some_iff.mp h1
    have hlt := zI1_pos h3
    obtain ⟨i', len, hi, hf, rfl⟩ := zI1_spec h3
    obtain ⟨l1, s1⟩ := e.2.2 cx 0 i.1 q h2
    refine ⟨by dsimp only; omega, fun C hC env env1 σ N B O R Ts T hs hw hN _ _ kt => ?_⟩
    dsimp only at kt
    refine ex C hC R T env1 σ (s1 C hC env env1 [] σ _ Ts R T rfl hs hw (fun v σ' hv => zRun_step hC hi ?_) (fun q' o' σ' a1 a2 a3 => kt q' env1 o' σ' a1 (by omega) zKp.rf a3))
    rw [h0]
    cases of_decide_eq_true hf
    exact ⟨rfl, hv.1, kt q env1 v σ' l1 hlt zKp.rf hv.2⟩
  · cases h1⟩
-- ## sequences, blocks, breaks
def sSkip : zS := ⟨(fun _ i => some (i, [], []), fun _ env σ N _ _ _ _ => N env σ), fun _ _ _ _ _ _ _ _ _ _ _ _ _ _ _ hN _ _ _ _ h => hN _ _ h, by
  intro cx i o h
  have e := (Option.some.inj h).symm
  subst e
  exact ⟨Nat.le_refl _, fun C hC env env1 σ N B O R Ts T hs hw hN _ _ kt => hN _ _ _ hs zKp.rf hw⟩⟩
def sSeq (a b : zS) : zS := ⟨(fun cx i => (a.1.1 cx i).bind (fun o => (b.1.1 cx o.1).map (fun p => (p.1, o.2.1 ++ p.2.1, o.2.2 ++ p.2.2))), fun C env σ N B O R T => a.1.2 C env σ (fun e σ' => b.1.2 C e σ' N B O R T) B O R T),
  fun _ _ _ _ _ _ _ _ _ _ _ _ _ _ hC hN hB hO hR hT h => a.2.1 _ _ _ _ _ _ _ _ _ _ _ _ _ _ hC (fun _ _ q => b.2.1 _ _ _ _ _ _ _ _ _ _ _ _ _ _ hC hN hB hO hR hT q) hB hO hR hT h, by
  intro cx i o h
  dsimp only at h
  obtain ⟨o1, h1, h2⟩ := Option.bind_eq_some_iff.mp h
  obtain ⟨o2, h3, rfl⟩ := Option.map_eq_some_iff.mp h2
  obtain ⟨l1, s1⟩ := a.2.2 cx i o1 h1
  obtain ⟨l2, s2⟩ := b.2.2 cx o1.1 o2 h3
  refine ⟨Nat.le_trans l1 l2, fun C hC env env1 σ N B O R Ts T hs hw hN hB hO kt => ?_⟩
  dsimp only at hN hB hO kt
  refine s1 C hC env env1 σ _ _ _ R Ts T hs hw (fun e e1 σ' he hk hv => s2 C hC e e1 σ' N B O R Ts T he hv (fun e' e1' σ'' a1 a2 a3 => hN e' e1' σ'' a1 (a2.tr hk) a3) (fun e' e1' σ'' a1 a2 a3 t ht => hB e' e1' σ'' a1 (a2.tr hk) a3 t (List.mem_append_right _ ht)) (fun e' e1' σ'' a1 a2 a3 t ht => hO e' e1' σ'' a1 (a2.tr hk) a3 t (List.mem_append_right _ ht)) (fun q e1' v σ'' a1 a2 a3 a4 => kt q e1' v σ'' (by omega) a2 (a3.tr hk) a4)) (fun e' e1' σ'' a1 a2 a3 t ht => hB e' e1' σ'' a1 a2 a3 t (List.mem_append_left _ ht)) (fun e' e1' σ'' a1 a2 a3 t ht => hO e' e1' σ'' a1 a2 a3 t (List.mem_append_left _ ht)) (fun q e1' v σ'' a1 a2 a3 a4 => kt q e1' v σ'' a1 (by omega) a3 a4)⟩
def zKill : Nat → List zTV → List zTV
  | _, [] => []
  | 0, _ :: t => (0, 0) :: zKill 0 t
  | n + 1, x :: t => x :: zKill n t
theorem zKill_len : ∀ (k : Nat) (l : List zTV), (zKill k l).length = l.length
  | _, [] => by simp [zKill]
  | 0, _ :: t => by simp [zKill, zKill_len 0 t]
  | n + 1, _ :: t => by simp [zKill, zKill_len n t]
theorem zKill_get : ∀ (k : Nat) (l : List zTV) (i t : Nat) (x : Int), (zKill k l)[i]? = some (t, x) → t ≠ 0 → l[i]? = some (t, x) ∧ i < k
  | _, [], i, t, x, h, _ => by simp [zKill] at h
  | 0, _ :: l, i, t, x, h, ht => by
    cases i with
    | zero => simp [zKill] at h; exact absurd h.1.symm ht
    | succ i =>
      have z := zKill_get 0 l i t x (by simpa [zKill] using h) ht
      omega
  | n + 1, y :: l, i, t, x, h, ht => by
    cases i with
    | zero => simp [zKill] at h; simp [h]
    | succ i =>
      have z := zKill_get n l i t x (by simpa [zKill] using h) ht
      simp [z.1]; omega
theorem zSub_kill {e e1 : List zTV} (h : zSub e e1) (k : Nat) : zSub (zKill k e) e1 := ⟨by rw [zKill_len]; exact h.1, fun i t x hi ht => h.2 i t x (zKill_get k e i t x hi ht).1 ht⟩
def sBlk (k : Nat) (s : zS) : zS := ⟨(fun cx i => (s.1.1 cx i).bind (fun o => if zAll cx o.1.1 o.1.2.2 = true then some ((o.1.1, o.1.2.1 || !o.1.2.2.isEmpty, []), o.2) else none), fun C env σ N B O R T => s.1.2 C env σ (fun e σ' => N (zKill k e) σ') (fun e σ' => B (zKill k e) σ') (fun e σ' => O (zKill k e) σ') R T),
  fun _ _ _ _ _ _ _ _ _ _ _ _ _ _ hC hN hB hO hR hT h => s.2.1 _ _ _ _ _ _ _ _ _ _ _ _ _ _ hC (fun _ _ q => hN _ _ q) (fun _ _ q => hB _ _ q) (fun _ _ q => hO _ _ q) hR hT h, by
  intro cx i o h
  dsimp only at h
  obtain ⟨o1, h1, h2⟩ := Option.bind_eq_some_iff.mp h
  split at h2
  · next ha =>
    have e := (Option.some.inj h2).symm
    subst e
    obtain ⟨l1, s1⟩ := s.2.2 cx i o1 h1
    refine ⟨l1, fun C hC env env1 σ N B O R Ts T hs hw hN hB hO kt => ?_⟩
    refine s1 C hC env env1 σ _ _ _ R Ts T hs hw (fun e e1 σ' he hk hv => ?_) (fun e' e1' σ'' a1 a2 a3 => hB _ e1' σ'' (zSub_kill a1 k) a2 a3) (fun e' e1' σ'' a1 a2 a3 => hO _ e1' σ'' (zSub_kill a1 k) a2 a3) kt
    have z := (hN _ e1 σ' (zSub_kill he k) hk hv).1
    dsimp only at z
    refine ⟨fun hf => z (by rw [hf]; rfl), fun t ht => ?_⟩
    have hne : (o1.1.2.1 || !o1.1.2.2.isEmpty) = true := by
      have : o1.1.2.2 ≠ [] := fun h => by rw [h] at ht; cases ht
      cases hx : o1.1.2.2 with
      | nil => exact absurd hx this
      | cons => simp
    exact zAll_spec hC ha (z hne) t ht
  · cases h2⟩
def zBrk (cx : zCx) (g : Bool) (i : zIo) : Option (Nat × List Nat) := if g = true then (zGoto cx i.1).bind (fun t => (zI1 cx i.1 (fun _ => true)).bind (fun p => if i.2.2.all (fun x => x == i.1 || x == t) = true then some (p, [t]) else none)) else some (i.1, (if i.2.1 = true then [i.1] else []) ++ i.2.2)
theorem zBrk_spec {cx : zCx} {g : Bool} {i : zIo} {o : Nat × List Nat} (h : zBrk cx g i = some o) : i.1 ≤ o.1 ∧ ∀ C, zMono C → ∀ (R T : zK) (e : List zTV) (σ : Mem), (∀ t ∈ o.2, zRun C cx R T t e [] σ) → zAtO C cx R T i e σ := by
  unfold zBrk at h
  split at h
  · obtain ⟨t, h1, h2⟩ := Option.bind_eq_some_iff.mp h
    obtain ⟨p, h3, h4⟩ := Option.bind_eq_some_iff.mp h2
    have hp := zI1_pos h3
    split at h4
    · next ha =>
      have e := (Option.some.inj h4).symm
      subst e
      refine ⟨by dsimp only; omega, fun C hC R T e σ k => ?_⟩
      have kt := k t (by simp)
      have kp := (zRun_goto hC h1).mpr kt
      refine ⟨fun _ => kp, fun x hx => ?_⟩
      rcases Bool.or_eq_true _ _ |>.mp (List.all_eq_true.mp ha x hx) with e | e
      · rw [eq_of_beq e]; exact kp
      · rw [eq_of_beq e]; exact kt
    · cases h4
  · have e := (Option.some.inj h).symm
    subst e
    refine ⟨Nat.le_refl _, fun C hC R T e σ k => ⟨fun hf => k _ (by rw [if_pos hf]; simp), fun t ht => k t (List.mem_append_right _ ht)⟩⟩
def sBrk (g : Bool) : zS := ⟨(fun cx i => (zBrk cx g i).map (fun o => ((o.1, false, []), o.2, [])), fun _ env σ _ B _ _ _ => B env σ), fun _ _ _ _ _ _ _ _ _ _ _ _ _ _ _ _ hB _ _ _ h => hB _ _ h, by
  intro cx i o h
  obtain ⟨p, h1, rfl⟩ := Option.map_eq_some_iff.mp h
  obtain ⟨l1, s1⟩ := zBrk_spec h1
  exact ⟨l1, fun C hC env env1 σ N B O R Ts T hs hw _ hB _ kt => s1 C hC R T env1 σ (hB _ _ _ hs zKp.rf hw)⟩⟩
def sCnt (g : Bool) : zS := ⟨(fun cx i => (zBrk cx g i).map (fun o => ((o.1, false, []), [], o.2)), fun _ env σ _ _ O _ _ => O env σ), fun _ _ _ _ _ _ _ _ _ _ _ _ _ _ _ _ _ hO _ _ h => hO _ _ h, by
  intro cx i o h
  obtain ⟨p, h1, rfl⟩ := Option.map_eq_some_iff.mp h
  obtain ⟨l1, s1⟩ := zBrk_spec h1
  exact ⟨l1, fun C hC env env1 σ N B O R Ts T hs hw _ _ hO kt => s1 C hC R T env1 σ (hO _ _ _ hs zKp.rf hw)⟩⟩
-- ## if
/-- a goto, if one falls to it -/
def zJump (cx : zCx) (i : zIo) : Option (Nat × List Nat) := if i.2.1 = true then zBrk cx true i else some (i.1, i.2.2)
theorem zJump_spec {cx : zCx} {i : zIo} {o : Nat × List Nat} (h : zJump cx i = some o) : i.1 ≤ o.1 ∧ ∀ C, zMono C → ∀ (R T : zK) (e : List zTV) (σ : Mem), (∀ t ∈ o.2, zRun C cx R T t e [] σ) → zAtO C cx R T i e σ := by
  unfold zJump at h
  split at h
  · exact zBrk_spec h
  · next hf =>
    have e := (Option.some.inj h).symm
    subst e
    exact ⟨Nat.le_refl _, fun C hC R T e σ k => ⟨fun q => absurd q hf, k⟩⟩
def sIf (c : zC) (a : zS) : zS := ⟨(fun cx i => if zAll cx i.1 i.2.2 = true then (c.1.1 cx 0 true i.1).bind (fun j => (a.1.1 cx (j.1, true, j.2.1)).map (fun o => ((o.1.1, o.1.2.1, o.1.2.2 ++ j.2.2), o.2))) else none, fun C env σ N B O R T => c.1.2 C env σ (fun x σ1 => (x = true → a.1.2 C env σ1 N B O R T) ∧ (x = false → N env σ1)) T),
  fun _ _ _ _ _ _ _ _ _ _ _ _ _ _ hC hN hB hO hR hT h => c.2.1 _ _ _ _ _ _ _ _ hC (fun _ _ q => ⟨fun e => a.2.1 _ _ _ _ _ _ _ _ _ _ _ _ _ _ hC hN hB hO hR hT (q.1 e), fun e => hN _ _ (q.2 e)⟩) hT h, by
  intro cx i o h
  dsimp only at h
  split at h
  · next ha =>
    obtain ⟨j, h1, h2⟩ := Option.bind_eq_some_iff.mp h
    obtain ⟨o1, h3, rfl⟩ := Option.map_eq_some_iff.mp h2
    obtain ⟨l1, s1⟩ := c.2.2 cx 0 true i.1 j h1
    obtain ⟨l2, s2⟩ := a.2.2 cx _ o1 h3
    dsimp only at l2
    refine ⟨Nat.le_trans l1 l2, fun C hC env env1 σ N B O R Ts T hs hw hN hB hO kt => ?_⟩
    dsimp only at hN hB hO kt
    have go : zRun C cx R T i.1 env1 [] σ := s1 C hC env env1 [] σ _ Ts R T rfl hs hw (fun x σ1 hx => by
      have g1 : x = true → zAtO C cx R T (j.1, true, j.2.1) env1 σ1 := fun e => s2 C hC env env1 σ1 N B O R Ts T hs (hx.1 e) (fun e' e1' σ'' a1 a2 a3 => by
        have z := hN e' e1' σ'' a1 a2 a3
        exact ⟨z.1, fun t ht => z.2 t (List.mem_append_left _ ht)⟩) hB hO (fun q e1' v σ'' a1 a2 a3 a4 => kt q e1' v σ'' (by dsimp only at a1; omega) a2 a3 a4)
      exact ⟨fun e => (g1 e).1 rfl, fun e => (g1 e).2, fun e t ht => (hN _ _ _ hs zKp.rf (hx.2 e)).2 t (List.mem_append_right _ ht)⟩) (fun q' o' σ' a1 a2 a3 => kt q' env1 o' σ' a1 (by omega) zKp.rf a3)
    exact ⟨fun _ => go, zAll_spec hC ha go⟩
  · cases h⟩
def sIfE (c : zC) (a b : zS) : zS := ⟨(fun cx i => if zAll cx i.1 i.2.2 = true then (c.1.1 cx 0 true i.1).bind (fun j => (a.1.1 cx (j.1, true, j.2.1)).bind (fun o => (zJump cx o.1).bind (fun p => (b.1.1 cx (p.1, true, j.2.2)).map (fun u => ((u.1.1, u.1.2.1, p.2 ++ u.1.2.2), o.2.1 ++ u.2.1, o.2.2 ++ u.2.2))))) else none, fun C env σ N B O R T => c.1.2 C env σ (fun x σ1 => (x = true → a.1.2 C env σ1 N B O R T) ∧ (x = false → b.1.2 C env σ1 N B O R T)) T),
  fun _ _ _ _ _ _ _ _ _ _ _ _ _ _ hC hN hB hO hR hT h => c.2.1 _ _ _ _ _ _ _ _ hC (fun _ _ q => ⟨fun e => a.2.1 _ _ _ _ _ _ _ _ _ _ _ _ _ _ hC hN hB hO hR hT (q.1 e), fun e => b.2.1 _ _ _ _ _ _ _ _ _ _ _ _ _ _ hC hN hB hO hR hT (q.2 e)⟩) hT h, by
  intro cx i o h
  dsimp only at h
  split at h
  · next ha =>
    obtain ⟨j, h1, h⟩ := Option.bind_eq_some_iff.mp h
    obtain ⟨o1, h2, h⟩ := Option.bind_eq_some_iff.mp h
    obtain ⟨p, h3, h⟩ := Option.bind_eq_some_iff.mp h
    obtain ⟨u, h4, rfl⟩ := Option.map_eq_some_iff.mp h
    obtain ⟨l1, s1⟩ := c.2.2 cx 0 true i.1 j h1
    obtain ⟨l2, s2⟩ := a.2.2 cx _ o1 h2
    obtain ⟨l3, s3⟩ := zJump_spec h3
    obtain ⟨l4, s4⟩ := b.2.2 cx _ u h4
    dsimp only at l2 l4
    refine ⟨by dsimp only; omega, fun C hC env env1 σ N B O R Ts T hs hw hN hB hO kt => ?_⟩
    dsimp only at hN hB hO kt
    have go : zRun C cx R T i.1 env1 [] σ := s1 C hC env env1 [] σ _ Ts R T rfl hs hw (fun x σ1 hx => by
      have g1 : x = true → zAtO C cx R T (j.1, true, j.2.1) env1 σ1 := fun e => s2 C hC env env1 σ1 N B O R Ts T hs (hx.1 e) (fun e' e1' σ'' a1 a2 a3 => s3 C hC R T e1' σ'' (fun t ht => (hN e' e1' σ'' a1 a2 a3).2 t (List.mem_append_left _ ht))) (fun e' e1' σ'' a1 a2 a3 t ht => hB e' e1' σ'' a1 a2 a3 t (List.mem_append_left _ ht)) (fun e' e1' σ'' a1 a2 a3 t ht => hO e' e1' σ'' a1 a2 a3 t (List.mem_append_left _ ht)) (fun q e1' v σ'' a1 a2 a3 a4 => kt q e1' v σ'' (by dsimp only at a1; omega) (by omega) a3 a4)
      have g2 : x = false → zAtO C cx R T (p.1, true, j.2.2) env1 σ1 := fun e => s4 C hC env env1 σ1 N B O R Ts T hs (hx.2 e) (fun e' e1' σ'' a1 a2 a3 => by
        have z := hN e' e1' σ'' a1 a2 a3
        exact ⟨z.1, fun t ht => z.2 t (List.mem_append_right _ ht)⟩) (fun e' e1' σ'' a1 a2 a3 t ht => hB e' e1' σ'' a1 a2 a3 t (List.mem_append_right _ ht)) (fun e' e1' σ'' a1 a2 a3 t ht => hO e' e1' σ'' a1 a2 a3 t (List.mem_append_right _ ht)) (fun q e1' v σ'' a1 a2 a3 a4 => kt q e1' v σ'' (by dsimp only at a1; omega) a2 a3 a4)
      exact ⟨fun e => (g1 e).1 rfl, fun e => (g1 e).2, fun e => (g2 e).2⟩) (fun q' o' σ' a1 a2 a3 => kt q' env1 o' σ' a1 (by omega) zKp.rf a3)
    exact ⟨fun _ => go, zAll_spec hC ha go⟩
  · cases h⟩
