/-! zRun is a fixed point -/
def zMono (C : zCS) : Prop := ∀ (y : Nat) (as : List Int) (σ : Mem) (R R' T T' : zK), (∀ v σ, R v σ → R' v σ) → (∀ v σ, T v σ → T' v σ) → C y as σ R T → C y as σ R' T'
theorem zP1_mono {t : Nat} {st : List zTV} {k k' : Int → List zTV → Prop} (h : ∀ x r, k x r → k' x r) : zP1 t st k → zP1 t st k' := by
  unfold zP1; split
  · exact fun q => ⟨q.1, h _ _ q.2⟩
  · exact id
theorem zP2_mono {t u : Nat} {st : List zTV} {k k' : Int → Int → List zTV → Prop} (h : ∀ x y r, k x y r → k' x y r) : zP2 t u st k → zP2 t u st k' := by
  unfold zP2; split
  · exact fun q => ⟨q.1, q.2.1, h _ _ _ q.2.2⟩
  · exact id
theorem zP3_mono {t u v : Nat} {st : List zTV} {k k' : Int → Int → Int → List zTV → Prop} (h : ∀ x y z r, k x y z r → k' x y z r) : zP3 t u v st k → zP3 t u v st k' := by
  unfold zP3; split
  · exact fun q => ⟨q.1, q.2.1, q.2.2.1, h _ _ _ _ q.2.2.2⟩
  · exact id
theorem zArgs_mono : ∀ (ts : List Nat) {st : List zTV} {acc : List Int} {k k' : List Int → List zTV → Prop}, (∀ x r, k x r → k' x r) → zArgs ts st acc k → zArgs ts st acc k'
  | [], _, _, _, _, h => h _ _
  | _ :: ts, _, _, _, _, h => zP1_mono fun _ _ => zArgs_mono ts h
theorem zLd_mono {t i : Nat} {env : List zTV} {k k' : Int → Prop} (h : ∀ x, k x → k' x) : zLd t i env k → zLd t i env k' := by
  unfold zLd; split
  · exact fun q => ⟨q.1, h _ q.2⟩
  · exact id
theorem zJmp_mono {pc : Nat} {off : Int} {k k' : Nat → Prop} (h : ∀ q, k q → k' q) : zJmp pc off k → zJmp pc off k' := fun q => ⟨q.1, h _ q.2⟩
theorem zBr_mono {c : Prop} {pc len : Nat} {off : Int} {k k' : Nat → Prop} (h : ∀ q, k q → k' q) : zBr c pc len off k → zBr c pc len off k' := fun q => ⟨q.1, fun a => h _ (q.2.1 a), fun a => h _ (q.2.2 a)⟩
theorem zSw_mono {pc : Nat} {d x : Int} {k k' : Nat → Prop} (h : ∀ q, k q → k' q) : ∀ ps : List (Int × Int), zSw pc d ps x k → zSw pc d ps x k'
  | [], q => zJmp_mono h q
  | _ :: t, q => ⟨fun a => zJmp_mono h (q.1 a), fun a => zSw_mono h t (q.2 a)⟩
theorem zThr_mono {cx : zCx} {T T' : zK} {go go' : zGo} {pc : Nat} {env : List zTV} {o : Int} {σ : Mem} (hg : ∀ pc env st σ, go pc env st σ → go' pc env st σ) (hT : ∀ v σ, T v σ → T' v σ) : zThr cx T go pc env o σ → zThr cx T' go' pc env o σ := by
  unfold zThr; split
  · exact hT _ _
  · split
    · rintro ⟨ci, a, b, c, d⟩; exact ⟨ci, a, b, c, hg _ _ _ _ d⟩
    · exact hT _ _
theorem zCall_mono {C : zCS} (hC : zMono C) {cx : zCx} {T T' : zK} {go go' : zGo} {pc n : Nat} {env st : List zTV} {σ : Mem} {y : Nat} (hg : ∀ pc env st σ, go pc env st σ → go' pc env st σ) (hT : ∀ v σ, T v σ → T' v σ) : zCall C cx T go pc n env st σ y → zCall C cx T' go' pc n env st σ y :=
  zArgs_mono _ fun _ _ => And.imp_right (hC _ _ _ _ _ _ _ (fun _ _ => hg _ _ _ _) (fun _ _ => zThr_mono hg hT))
theorem zIns_mono {C : zCS} (hC : zMono C) {cx : zCx} {R R' T T' : zK} {go go' : zGo} {pc len : Nat} {env st : List zTV} {σ : Mem} (hg : ∀ pc env st σ, go pc env st σ → go' pc env st σ) (hR : ∀ v σ, R v σ → R' v σ) (hT : ∀ v σ, T v σ → T' v σ) (i : Instr) :
    zIns C cx R T go pc len env st σ i → zIns C cx R' T' go' pc len env st σ i := by
  unfold zIns
  split <;> (try exact id)
  all_goals dsimp only
  all_goals (repeat' first
    | exact hg _ _ _ _ | exact hR _ _ | exact hT _ _ | exact zThr_mono hg hT | exact zCall_mono hC hg hT
    | exact id
    | refine zP1_mono fun _ _ => ?_ | refine zP2_mono fun _ _ _ => ?_ | refine zP3_mono fun _ _ _ _ => ?_ | refine zLd_mono fun _ => ?_
    | refine zJmp_mono fun _ => ?_ | refine zBr_mono fun _ => ?_ | refine zSw_mono (fun _ => ?_) _
    | refine And.imp_right ?_ | refine Exists.imp fun _ => ?_ | refine Or.imp ?_ ?_
    | split
    | (refine fun q a => ?_; refine hg _ _ _ _ (q a)))
theorem zStp_mono {C : zCS} (hC : zMono C) {cx : zCx} {R R' T T' : zK} {go go' : zGo} {pc : Nat} {env st : List zTV} {σ : Mem} (hg : ∀ pc env st σ, go pc env st σ → go' pc env st σ) (hR : ∀ v σ, R v σ → R' v σ) (hT : ∀ v σ, T v σ → T' v σ) :
    zStp C cx R T go pc env st σ → zStp C cx R' T' go' pc env st σ := by
  unfold zStp; split
  · exact zIns_mono hC hg hR hT _
  · exact id
theorem zRun_in {C : zCS} (hC : zMono C) {cx : zCx} {R T : zK} {pc : Nat} {env st : List zTV} {σ : Mem} (h : zStp C cx R T (zRun C cx R T) pc env st σ) : zRun C cx R T pc env st σ :=
  fun P hP => hP _ _ _ _ (zStp_mono hC (fun _ _ _ _ q => q P hP) (fun _ _ => id) (fun _ _ => id) h)
theorem zRun_out {C : zCS} (hC : zMono C) {cx : zCx} {R T : zK} {pc : Nat} {env st : List zTV} {σ : Mem} (h : zRun C cx R T pc env st σ) : zStp C cx R T (zRun C cx R T) pc env st σ :=
  h (zStp C cx R T (zRun C cx R T)) fun _ _ _ _ q => zStp_mono hC (fun _ _ _ _ => zRun_in hC) (fun _ _ => id) (fun _ _ => id) q
theorem zRun_mono {C : zCS} (hC : zMono C) {cx : zCx} {R R' T T' : zK} (hR : ∀ v σ, R v σ → R' v σ) (hT : ∀ v σ, T v σ → T' v σ) {pc : Nat} {env st : List zTV} {σ : Mem} (h : zRun C cx R T pc env st σ) : zRun C cx R' T' pc env st σ :=
  h (zRun C cx R' T') fun _ _ _ _ q => zRun_in hC (zStp_mono hC (fun _ _ _ _ => id) hR hT q)
