/-! LazyForms' reader: maker() -/
/-- the makers of a text's own, before token i; P: those of the program, if it is another text -/
def mkO (kd : Nat → Nat) (nm : Nat → List Int) (P o0 : List (List Int)) : Nat → List (List Int)
  | 0 => o0
  | i + 1 => if kd i = 3 ∧ fndI P (nm i) = none ∧ fndI (mkO kd nm P o0 i) (nm i) = none then mkO kd nm P o0 i ++ [nm i] else mkO kd nm P o0 i
/-- the number of the maker at token i -/
def mkN (kd : Nat → Nat) (nm : Nat → List Int) (P o0 : List (List Int)) (off : Int) (i : Nat) : Int := match fndI P (nm i) with
  | some m => (m : Int)
  | none => off + fndZ (mkO kd nm P o0 (i + 1)) (nm i)
theorem fndI_app : ∀ (L : List (List Int)) (w : List Int), fndI L w = none → fndI (L ++ [w]) w = some L.length
  | [], w, _ => by simp [fndI]
  | a :: L, w, h => by
    unfold fndI at h
    split at h
    · cases h
    · next hne =>
      have h' : fndI L w = none := by
        cases q : fndI L w with
        | none => rfl
        | some k => rw [q] at h; cases h
      show (if a = w then some 0 else (fndI (L ++ [w]) w).map (· + 1)) = _
      rw [if_neg hne, fndI_app L w h']; rfl
theorem mkO_12 {kd : Nat → Nat} {nm : Nat → List Int} {P o0 : List (List Int)} (h0 : ∀ w ∈ o0, w.length ≤ 12) (hn : ∀ i, kd i = 3 → (nm i).length ≤ 12) : ∀ i, ∀ w ∈ mkO kd nm P o0 i, w.length ≤ 12
  | 0 => h0
  | i + 1 => by
    intro w hw
    unfold mkO at hw
    split at hw
    · next h =>
      rcases List.mem_append.mp hw with hw | hw
      · exact mkO_12 h0 hn i w hw
      · rw [List.mem_singleton.mp hw]; exact hn i h.1
    · exact mkO_12 h0 hn i w hw
theorem tok_mk {tp : Nat → Int} {n p : Nat} (h : (tok tp n p).1 = 3) : p < n ∧ (tok tp n p).2 ≤ 12 := by
  by_cases h1 : n ≤ p
  · exfalso; revert h; unfold tok; rw [if_pos h1]; decide
  refine ⟨by omega, ?_⟩
  by_cases h2 : isS (chr tp n p) = true ∨ isG (chr tp n p) = true
  · have e : tok tp n p = (if 12 < wEnd tp n p - p then 1 else if isG (chr tp n p) = true then 3 else kwd tp n p (wEnd tp n p - p), wEnd tp n p - p) := by
      unfold tok; rw [if_neg h1, if_pos h2]
    rw [e] at h ⊢
    dsimp only at h ⊢
    by_cases g : 12 < wEnd tp n p - p
    · rw [if_pos g] at h; exact absurd h (by decide)
    · omega
  exfalso
  revert h; unfold tok; rw [if_neg h1, if_neg h2]
  split
  · dsimp only
    split <;> decide
  · intro h
    exact absurd h ((show ∀ x ∈ sgnL, x.1 ≠ 3 by decide) _ (sgn_mem _ _))
section
variable {tp : Nat → Int} {n e tr pr i o N : Nat} {ml : Nat → List (List Int)} {mk : Nat → Int} {σ : Mem}
theorem nmT_len (tp : Nat → Int) (n i : Nat) : (nmT tp n i).length = szT tp n i := by simp [nmT]
theorem nmT_at (tp : Nat → Int) (n i k : Nat) (h : k < (nmT tp n i).length) : (nmT tp n i)[k] = tp (plc tp n i + k) := by simp [nmT]
theorem Nam.of (h : XS tp n e tr pr σ) (h3 : kdT tp n i = 3) : Nam σ 9 (plc tp n i) (nmT tp n i) ∧ plc tp n i + (nmT tp n i).length ≤ 2000 ∧ (nmT tp n i).length ≤ 12 ∧ ∀ k (hk : k < (nmT tp n i).length), -128 ≤ (nmT tp n i)[k] ∧ (nmT tp n i)[k] < 128 := by
  obtain ⟨t1, t2⟩ := tok_mk h3
  have t3 := tok_le (tp := tp) t1
  have hn := h.1.2.2.1
  have e1 : (nmT tp n i).length = (tok tp n (plc tp n i)).2 := nmT_len tp n i
  refine ⟨fun k hk => ?_, by omega, by omega, fun k hk => ?_⟩
  · rw [nmT_at]; exact h.1.2.2.2 _ (by omega)
  · rw [nmT_at]; exact h.2.2.2.2.2.2.2.2.2 _ (by omega)
theorem XP.mkr (h : XP tp n e tr pr ml i o N σ) (hi : i < e) {τ : Mem} (hF : Fr (fun o k => o == tr + 9 || o == tr + 10 || (o == tr && k == 11)) σ τ) (hT : MTab tr (ml (i + 1)) τ) : XPm tp n e tr pr ml i o N τ ∧ ∀ k, XFr tr k σ τ := by
  obtain ⟨hS, a4, a5, a8, -, hm⟩ := h
  have ht := hS.2.2.2.2.2.1
  have hp := hS.2.2.2.2.2.2.1
  have hF' : Fr (wP tr) σ τ := hF.le (fun o k hq => by
    simp only [Bool.or_eq_true, Bool.and_eq_true, beq_iff_eq] at hq
    simp only [wP, Bool.or_eq_true, Bool.and_eq_true, beq_iff_eq, decide_eq_true_eq]
    omega)
  have q : ∀ o k, o ≠ tr + 9 → o ≠ tr + 10 → (o = tr → k ≠ 11) → τ o k = σ o k := fun o k h1 h2 h3 => hF o k (by
    simp only [Bool.or_eq_false_iff, Bool.and_eq_false_iff, beq_eq_false_iff_ne]
    refine ⟨⟨h1, h2⟩, ?_⟩
    by_cases e : o = tr
    · exact Or.inr (h3 e)
    · exact Or.inl e)
  have h7 : tr ≠ 7 ∧ tr + 9 ≠ 7 ∧ tr + 10 ≠ 7 := by rcases ht with h | h | h | h <;> omega
  refine ⟨⟨hS.fr hF', (q 7 4 (Ne.symm h7.2.1) (Ne.symm h7.2.2) (fun z => absurd z.symm h7.1)).trans a4, (q 7 5 (Ne.symm h7.2.1) (Ne.symm h7.2.2) (fun z => absurd z.symm h7.1)).trans a5, (q tr 8 (by omega) (by omega) (fun _ => by decide)).trans a8, hi, hT, fun hne => ?_⟩, fun k => ⟨hF', fun f j _ => ?_⟩⟩
  · refine (hm.2 hne).fr (q _ _ ?_ ?_ (fun z => absurd z.symm hne)) (fun k => q _ _ ?_ ?_ ?_) (fun k => q _ _ ?_ ?_ ?_)
    all_goals (rcases ht with rfl | rfl | rfl | rfl <;> rcases hp with rfl | rfl | rfl | rfl <;> first | exact absurd rfl hne | omega)
  · unfold xr
    split
    · exact q _ _ (by omega) (by omega) (by omega)
    · rfl
/-- maker(), in a program -/
theorem hMkP (htp : tr = pr) (h0 : List (List Int)) (hml : ∀ i, i ≤ e → ml i = mkO (kdT tp n) (nmT tp n) [] h0 i) (h12 : ∀ w ∈ h0, w.length ≤ 12) (hlen : ∀ i, i < e → (ml i).length < 700) : HMk tp n e tr pr ml (mkN (kdT tp n) (nmT tp n) [] h0 0) := by
  intro d i o N σ R T h hi h3 hR
  subst htp
  have hL := h.lay
  have ht := h.1.2.2.2.2.2.1
  have hie := Nat.le_of_lt hi
  have he := h.1.2.2.1
  have hin : (0 : Int) ≤ (i : Int) ∧ (i : Int) < ((2002 : Nat) : Int) := by omega
  obtain ⟨nm1, nm2, nm3, nm4⟩ := Nam.of h.1 h3
  have hl12 : ∀ m (hm : m < (ml i).length), (ml i)[m].length ≤ 12 := fun m hm => by
    refine mkO_12 h12 (fun k hk => by rw [nmT_len]; exact (tok_mk hk).2) i _ (?_ : _ ∈ mkO (kdT tp n) (nmT tp n) [] h0 i)
    rw [← hml i hie]; exact List.getElem_mem _
  have etext : szT tp n i = (nmT tp n i).length := (nmT_len tp n i).symm
  have hb := h.1.2.1 i hie
  have hT := h.2.2.2.2.2.1
  have esz : σ 12 i = ((nmT tp n i).length : Int) := by rw [hb.2.2, etext]
  have epl : σ 11 i = (plc tp n i : Int) := hb.2.1
  have mk1 : mkN (kdT tp n) (nmT tp n) [] h0 0 i = fndZ (ml (i + 1)) (nmT tp n i) := by
    unfold mkN; rw [hml (i + 1) hi]
    show (0 : Int) + _ = _
    rw [Int.zero_add]
  have tr5 : ((tr : Int) = 0 ∨ 5 ≤ (tr : Int)) = True := eq_true (Or.inr (by rcases ht with z | z | z | z <;> omega))
  simp only [c_54, b_54, ↓zwq, zpq, zgq, zhq, eq_sto, eq_kill, eq_zSto, eq_mset, eq_zGd, zsq, Int.reduceToNat, List.length_cons, List.length_nil, Nat.reduceAdd, Nat.reduceLT, Nat.reduceEqDiff, Int.reduceLT, Int.reduceLE, Int.reduceEq, Int.reduceNe, Int.reduceNeg, Int.reduceAdd, Int.reduceSub, Int.reduceMul, if_true, if_false, ite_true, ite_false, reduceIte, true_and, and_true, true_implies, forall_const, decide_eq_true_eq, decide_eq_false_iff_not, Bool.not_eq_true', Bool.not_eq_false', Bool.and_eq_true, Bool.or_eq_true, Bool.and_eq_false_iff, Bool.or_eq_false_iff, Bool.not_eq_true, Bool.not_eq_false, Bool.false_eq_true, Bool.true_eq_false, false_implies, implies_true, b2i_ne, b2i_eq, zB_b2i, not_true_eq_false, not_false_eq_true, List.drop_zero, List.drop_succ_cons, zIn_iff, zI8_iff, or_false, false_or, or_true, true_or, and_false, false_and, Decidable.not_not, laq hL, h.2.1, h.1.2.2.2.1, h.1.2.2.2.2.1, hin, Int.toNat_natCast, epl, esz, trs ht]
  refine s31 (d + 1) hL ht hT (Nat.le_of_lt (hlen i hi)) nm1 nm3 nm2 _ _ ?_
  cases hf : fndI (ml i) (nmT tp n i) with
  | some m =>
    have e1 : ml (i + 1) = ml i := by
      rw [hml (i + 1) hi, hml i hie]
      show (if _ then _ else _) = _
      rw [if_neg (fun z => by rw [← hml i hie, hf] at z; exact absurd z.2.2 (by simp))]
    have e2 : fndZ (ml i) (nmT tp n i) = (m : Int) := by unfold fndZ; rw [hf]
    have hne : ((m : Int) = -1) = False := eq_false (by omega)
    rw [mk1, e1, e2] at hR
    simp only [↓zwq, zpq, zgq, zhq, eq_sto, eq_kill, eq_zSto, eq_mset, eq_zGd, zsq, Int.reduceToNat, List.length_cons, List.length_nil, Nat.reduceAdd, Nat.reduceLT, Nat.reduceEqDiff, Int.reduceLT, Int.reduceLE, Int.reduceEq, Int.reduceNe, Int.reduceNeg, Int.reduceAdd, Int.reduceSub, Int.reduceMul, if_true, if_false, ite_true, ite_false, reduceIte, true_and, and_true, true_implies, forall_const, decide_eq_true_eq, decide_eq_false_iff_not, Bool.not_eq_true', Bool.not_eq_false', Bool.and_eq_true, Bool.or_eq_true, Bool.and_eq_false_iff, Bool.or_eq_false_iff, Bool.not_eq_true, Bool.not_eq_false, Bool.false_eq_true, Bool.true_eq_false, false_implies, implies_true, b2i_ne, b2i_eq, zB_b2i, not_true_eq_false, not_false_eq_true, List.drop_zero, List.drop_succ_cons, zIn_iff, zI8_iff, or_false, false_or, or_true, true_or, and_false, false_and, Decidable.not_not, e2, hne]
    have z := h.mkr hi (τ := σ) Fr.rf (by rw [e1]; exact hT)
    exact hR σ z.1 z.2
  | none =>
    have e1 : ml (i + 1) = ml i ++ [nmT tp n i] := by
      rw [hml (i + 1) hi]
      have : mkO (kdT tp n) (nmT tp n) [] h0 (i + 1) = mkO (kdT tp n) (nmT tp n) [] h0 i ++ [nmT tp n i] := by
        show (if _ then _ else _) = _
        rw [if_pos ⟨h3, rfl, by rw [← hml i hie]; exact hf⟩]
      rw [this, hml i hie]
    have e2 : fndZ (ml i) (nmT tp n i) = -1 := by unfold fndZ; rw [hf]
    have e3 : fndZ (ml i ++ [nmT tp n i]) (nmT tp n i) = ((ml i).length : Int) := by unfold fndZ; rw [fndI_app _ _ hf]
    rw [mk1, e1, e3] at hR
    simp only [↓zwq, zpq, zgq, zhq, eq_sto, eq_kill, eq_zSto, eq_mset, eq_zGd, zsq, Int.reduceToNat, List.length_cons, List.length_nil, Nat.reduceAdd, Nat.reduceLT, Nat.reduceEqDiff, Int.reduceLT, Int.reduceLE, Int.reduceEq, Int.reduceNe, Int.reduceNeg, Int.reduceAdd, Int.reduceSub, Int.reduceMul, if_true, if_false, ite_true, ite_false, reduceIte, true_and, and_true, true_implies, forall_const, decide_eq_true_eq, decide_eq_false_iff_not, Bool.not_eq_true', Bool.not_eq_false', Bool.and_eq_true, Bool.or_eq_true, Bool.and_eq_false_iff, Bool.or_eq_false_iff, Bool.not_eq_true, Bool.not_eq_false, Bool.false_eq_true, Bool.true_eq_false, false_implies, implies_true, b2i_ne, b2i_eq, zB_b2i, not_true_eq_false, not_false_eq_true, List.drop_zero, List.drop_succ_cons, zIn_iff, zI8_iff, or_false, false_or, or_true, true_or, and_false, false_and, Decidable.not_not, e2, laq hL, h.2.1, h.1.2.2.2.1, hin, Int.toNat_natCast, epl, esz, trs ht]
    refine s31 (d + 1) hL ht hT (Nat.le_of_lt (hlen i hi)) nm1 nm3 nm2 _ _ ?_
    simp only [↓zwq, zpq, zgq, zhq, eq_sto, eq_kill, eq_zSto, eq_mset, eq_zGd, zsq, Int.reduceToNat, List.length_cons, List.length_nil, Nat.reduceAdd, Nat.reduceLT, Nat.reduceEqDiff, Int.reduceLT, Int.reduceLE, Int.reduceEq, Int.reduceNe, Int.reduceNeg, Int.reduceAdd, Int.reduceSub, Int.reduceMul, if_true, if_false, ite_true, ite_false, reduceIte, true_and, and_true, true_implies, forall_const, decide_eq_true_eq, decide_eq_false_iff_not, Bool.not_eq_true', Bool.not_eq_false', Bool.and_eq_true, Bool.or_eq_true, Bool.and_eq_false_iff, Bool.or_eq_false_iff, Bool.not_eq_true, Bool.not_eq_false, Bool.false_eq_true, Bool.true_eq_false, false_implies, implies_true, b2i_ne, b2i_eq, zB_b2i, not_true_eq_false, not_false_eq_true, List.drop_zero, List.drop_succ_cons, zIn_iff, zI8_iff, or_false, false_or, or_true, true_or, and_false, false_and, Decidable.not_not, e2, laq hL, h.2.1, h.1.2.2.2.1, hin, Int.toNat_natCast, epl, esz, trs ht]
    refine s32 (d + 2) (tx := 9) (lx := 2000) hL ht hT (hlen i hi) nm1 nm4 nm3 hl12 nm2 (by omega) (by omega) (fun s => rfl) (by rcases ht with z | z | z | z <;> omega) _ _ (fun τ hF hT2 => ?_)
    have z := h.mkr hi hF (by rw [e1]; exact hT2)
    simp only [↓zwq, zpq, zgq, zhq, eq_sto, eq_kill, eq_zSto, eq_mset, eq_zGd, zsq, Int.reduceToNat, List.length_cons, List.length_nil, Nat.reduceAdd, Nat.reduceLT, Nat.reduceEqDiff, Int.reduceLT, Int.reduceLE, Int.reduceEq, Int.reduceNe, Int.reduceNeg, Int.reduceAdd, Int.reduceSub, Int.reduceMul, if_true, if_false, ite_true, ite_false, reduceIte, true_and, and_true, true_implies, forall_const, decide_eq_true_eq, decide_eq_false_iff_not, Bool.not_eq_true', Bool.not_eq_false', Bool.and_eq_true, Bool.or_eq_true, Bool.and_eq_false_iff, Bool.or_eq_false_iff, Bool.not_eq_true, Bool.not_eq_false, Bool.false_eq_true, Bool.true_eq_false, false_implies, implies_true, b2i_ne, b2i_eq, zB_b2i, not_true_eq_false, not_false_eq_true, List.drop_zero, List.drop_succ_cons, zIn_iff, zI8_iff, or_false, false_or, or_true, true_or, and_false, false_and, Decidable.not_not, laq z.1.1.1.1, z.1.1.2.2.2.1, z.1.1.2.2.2.2.1, tr5]
    exact hR τ z.1 z.2
/-- maker(), in an expression of a program with the makers P -/
theorem hMkA (hne : tr ≠ pr) (P : List (List Int)) (hP : ml 1000000 = P) (hPl : P.length ≤ 700) (hml : ∀ i, i ≤ e → ml i = mkO (kdT tp n) (nmT tp n) P [] i) (hlen : ∀ i, i < e → (ml i).length < 700) : HMk tp n e tr pr ml (mkN (kdT tp n) (nmT tp n) P [] 1000) := by
  intro d i o N σ R T h hi h3 hR
  have hL := h.lay
  have ht := h.1.2.2.2.2.2.1
  have htp := h.1.2.2.2.2.2.2.1
  have hie := Nat.le_of_lt hi
  have he := h.1.2.2.1
  have hin : (0 : Int) ≤ (i : Int) ∧ (i : Int) < ((2002 : Nat) : Int) := by omega
  obtain ⟨nm1, nm2, nm3, nm4⟩ := Nam.of h.1 h3
  have hl12 : ∀ m (hm : m < (ml i).length), (ml i)[m].length ≤ 12 := fun m hm => by
    refine mkO_12 (fun w hw => absurd hw (by simp)) (fun k hk => by rw [nmT_len]; exact (tok_mk hk).2) i _ (?_ : _ ∈ mkO (kdT tp n) (nmT tp n) P [] i)
    rw [← hml i hie]; exact List.getElem_mem _
  have etext : szT tp n i = (nmT tp n i).length := (nmT_len tp n i).symm
  have hb := h.1.2.1 i hie
  have hT := h.2.2.2.2.2.1
  have hTp : MTab pr P σ := by rw [← hP]; exact h.2.2.2.2.2.2 hne
  have esz : σ 12 i = ((nmT tp n i).length : Int) := by rw [hb.2.2, etext]
  have epl : σ 11 i = (plc tp n i : Int) := hb.2.1
  have tr5 : ((tr : Int) = 0 ∨ 5 ≤ (tr : Int)) = True := eq_true (Or.inr (by rcases ht with z | z | z | z <;> omega))
  have pr5 : ((pr : Int) = 0 ∨ 5 ≤ (pr : Int)) = True := eq_true (Or.inr (by rcases htp with z | z | z | z <;> omega))
  have hneI : ((tr : Int) = (pr : Int)) = False := eq_false (fun z => hne (Int.ofNat.inj z))
  simp only [c_54, b_54, ↓zwq, zpq, zgq, zhq, eq_sto, eq_kill, eq_zSto, eq_mset, eq_zGd, zsq, Int.reduceToNat, List.length_cons, List.length_nil, Nat.reduceAdd, Nat.reduceLT, Nat.reduceEqDiff, Int.reduceLT, Int.reduceLE, Int.reduceEq, Int.reduceNe, Int.reduceNeg, Int.reduceAdd, Int.reduceSub, Int.reduceMul, if_true, if_false, ite_true, ite_false, reduceIte, true_and, and_true, true_implies, forall_const, decide_eq_true_eq, decide_eq_false_iff_not, Bool.not_eq_true', Bool.not_eq_false', Bool.and_eq_true, Bool.or_eq_true, Bool.and_eq_false_iff, Bool.or_eq_false_iff, Bool.not_eq_true, Bool.not_eq_false, Bool.false_eq_true, Bool.true_eq_false, false_implies, implies_true, b2i_ne, b2i_eq, zB_b2i, not_true_eq_false, not_false_eq_true, List.drop_zero, List.drop_succ_cons, zIn_iff, zI8_iff, or_false, false_or, or_true, true_or, and_false, false_and, Decidable.not_not, laq hL, h.2.1, h.1.2.2.2.1, h.1.2.2.2.2.1, hin, Int.toNat_natCast, epl, esz, trs ht, trs htp]
  refine s31 (d + 1) hL htp hTp hPl nm1 nm3 nm2 _ _ ?_
  cases hf : fndI P (nmT tp n i) with
  | some m =>
    have e1 : ml (i + 1) = ml i := by
      rw [hml (i + 1) hi, hml i hie]
      show (if _ then _ else _) = _
      rw [if_neg (fun z => by rw [hf] at z; exact absurd z.2.1 (by simp))]
    have e2 : fndZ P (nmT tp n i) = (m : Int) := by unfold fndZ; rw [hf]
    have e3 : mkN (kdT tp n) (nmT tp n) P [] 1000 i = (m : Int) := by unfold mkN; rw [hf]
    have hne1 : ((m : Int) = -1) = False := eq_false (by omega)
    rw [e3] at hR
    simp only [↓zwq, zpq, zgq, zhq, eq_sto, eq_kill, eq_zSto, eq_mset, eq_zGd, zsq, Int.reduceToNat, List.length_cons, List.length_nil, Nat.reduceAdd, Nat.reduceLT, Nat.reduceEqDiff, Int.reduceLT, Int.reduceLE, Int.reduceEq, Int.reduceNe, Int.reduceNeg, Int.reduceAdd, Int.reduceSub, Int.reduceMul, if_true, if_false, ite_true, ite_false, reduceIte, true_and, and_true, true_implies, forall_const, decide_eq_true_eq, decide_eq_false_iff_not, Bool.not_eq_true', Bool.not_eq_false', Bool.and_eq_true, Bool.or_eq_true, Bool.and_eq_false_iff, Bool.or_eq_false_iff, Bool.not_eq_true, Bool.not_eq_false, Bool.false_eq_true, Bool.true_eq_false, false_implies, implies_true, b2i_ne, b2i_eq, zB_b2i, not_true_eq_false, not_false_eq_true, List.drop_zero, List.drop_succ_cons, zIn_iff, zI8_iff, or_false, false_or, or_true, true_or, and_false, false_and, Decidable.not_not, e2, hne1]
    have z := h.mkr hi (τ := σ) Fr.rf (by rw [e1]; exact hT)
    exact hR σ z.1 z.2
  | none =>
    have e2 : fndZ P (nmT tp n i) = -1 := by unfold fndZ; rw [hf]
    have mk1 : mkN (kdT tp n) (nmT tp n) P [] 1000 i = 1000 + fndZ (ml (i + 1)) (nmT tp n i) := by
      unfold mkN; rw [hml (i + 1) hi, hf]
    rw [mk1] at hR
    simp only [↓zwq, zpq, zgq, zhq, eq_sto, eq_kill, eq_zSto, eq_mset, eq_zGd, zsq, Int.reduceToNat, List.length_cons, List.length_nil, Nat.reduceAdd, Nat.reduceLT, Nat.reduceEqDiff, Int.reduceLT, Int.reduceLE, Int.reduceEq, Int.reduceNe, Int.reduceNeg, Int.reduceAdd, Int.reduceSub, Int.reduceMul, if_true, if_false, ite_true, ite_false, reduceIte, true_and, and_true, true_implies, forall_const, decide_eq_true_eq, decide_eq_false_iff_not, Bool.not_eq_true', Bool.not_eq_false', Bool.and_eq_true, Bool.or_eq_true, Bool.and_eq_false_iff, Bool.or_eq_false_iff, Bool.not_eq_true, Bool.not_eq_false, Bool.false_eq_true, Bool.true_eq_false, false_implies, implies_true, b2i_ne, b2i_eq, zB_b2i, not_true_eq_false, not_false_eq_true, List.drop_zero, List.drop_succ_cons, zIn_iff, zI8_iff, or_false, false_or, or_true, true_or, and_false, false_and, Decidable.not_not, e2, laq hL, h.2.1, h.1.2.2.2.1, hin, Int.toNat_natCast, epl, esz, trs ht]
    refine s31 (d + 1) hL ht hT (Nat.le_of_lt (hlen i hi)) nm1 nm3 nm2 _ _ ?_
    have hlb := hlen i hi
    cases hf2 : fndI (ml i) (nmT tp n i) with
    | some m =>
      have e1 : ml (i + 1) = ml i := by
        rw [hml (i + 1) hi, hml i hie]
        show (if _ then _ else _) = _
        rw [if_neg (fun z => by rw [← hml i hie, hf2] at z; exact absurd z.2.2 (by simp))]
      have e4 : fndZ (ml i) (nmT tp n i) = (m : Int) := by unfold fndZ; rw [hf2]
      have hne1 : ((m : Int) = -1) = False := eq_false (by omega)
      obtain ⟨hm, -⟩ := fndI_lt hf2
      rw [e1, e4] at hR
      have z := h.mkr hi (τ := σ) Fr.rf (by rw [e1]; exact hT)
      have ew : w32 (1000 + (m : Int)) = 1000 + (m : Int) := w32_id (by omega) (by omega)
      simp only [↓zwq, zpq, zgq, zhq, eq_sto, eq_kill, eq_zSto, eq_mset, eq_zGd, zsq, Int.reduceToNat, List.length_cons, List.length_nil, Nat.reduceAdd, Nat.reduceLT, Nat.reduceEqDiff, Int.reduceLT, Int.reduceLE, Int.reduceEq, Int.reduceNe, Int.reduceNeg, Int.reduceAdd, Int.reduceSub, Int.reduceMul, if_true, if_false, ite_true, ite_false, reduceIte, true_and, and_true, true_implies, forall_const, decide_eq_true_eq, decide_eq_false_iff_not, Bool.not_eq_true', Bool.not_eq_false', Bool.and_eq_true, Bool.or_eq_true, Bool.and_eq_false_iff, Bool.or_eq_false_iff, Bool.not_eq_true, Bool.not_eq_false, Bool.false_eq_true, Bool.true_eq_false, false_implies, implies_true, b2i_ne, b2i_eq, zB_b2i, not_true_eq_false, not_false_eq_true, List.drop_zero, List.drop_succ_cons, zIn_iff, zI8_iff, or_false, false_or, or_true, true_or, and_false, false_and, Decidable.not_not, e4, hne1, laq hL, h.1.2.2.2.1, h.1.2.2.2.2.1, tr5, pr5, hneI, ew]
      exact hR σ z.1 z.2
    | none =>
      have e1 : ml (i + 1) = ml i ++ [nmT tp n i] := by
        rw [hml (i + 1) hi]
        have : mkO (kdT tp n) (nmT tp n) P [] (i + 1) = mkO (kdT tp n) (nmT tp n) P [] i ++ [nmT tp n i] := by
          show (if _ then _ else _) = _
          rw [if_pos ⟨h3, hf, by rw [← hml i hie]; exact hf2⟩]
        rw [this, hml i hie]
      have e4 : fndZ (ml i) (nmT tp n i) = -1 := by unfold fndZ; rw [hf2]
      have e3 : fndZ (ml i ++ [nmT tp n i]) (nmT tp n i) = ((ml i).length : Int) := by unfold fndZ; rw [fndI_app _ _ hf2]
      rw [e1, e3] at hR
      have ew : w32 (1000 + ((ml i).length : Int)) = 1000 + ((ml i).length : Int) := w32_id (by omega) (by omega)
      simp only [↓zwq, zpq, zgq, zhq, eq_sto, eq_kill, eq_zSto, eq_mset, eq_zGd, zsq, Int.reduceToNat, List.length_cons, List.length_nil, Nat.reduceAdd, Nat.reduceLT, Nat.reduceEqDiff, Int.reduceLT, Int.reduceLE, Int.reduceEq, Int.reduceNe, Int.reduceNeg, Int.reduceAdd, Int.reduceSub, Int.reduceMul, if_true, if_false, ite_true, ite_false, reduceIte, true_and, and_true, true_implies, forall_const, decide_eq_true_eq, decide_eq_false_iff_not, Bool.not_eq_true', Bool.not_eq_false', Bool.and_eq_true, Bool.or_eq_true, Bool.and_eq_false_iff, Bool.or_eq_false_iff, Bool.not_eq_true, Bool.not_eq_false, Bool.false_eq_true, Bool.true_eq_false, false_implies, implies_true, b2i_ne, b2i_eq, zB_b2i, not_true_eq_false, not_false_eq_true, List.drop_zero, List.drop_succ_cons, zIn_iff, zI8_iff, or_false, false_or, or_true, true_or, and_false, false_and, Decidable.not_not, e4, laq hL, h.2.1, h.1.2.2.2.1, hin, Int.toNat_natCast, epl, esz, trs ht]
      refine s32 (d + 2) (tx := 9) (lx := 2000) hL ht hT (hlen i hi) nm1 nm4 nm3 hl12 nm2 (by decide) (by decide) (fun s => rfl) (by rcases ht with rfl | rfl | rfl | rfl <;> decide) _ _ (fun τ hF hT2 => ?_)
      have z := h.mkr hi hF (by rw [e1]; exact hT2)
      simp only [↓zwq, zpq, zgq, zhq, eq_sto, eq_kill, eq_zSto, eq_mset, eq_zGd, zsq, Int.reduceToNat, List.length_cons, List.length_nil, Nat.reduceAdd, Nat.reduceLT, Nat.reduceEqDiff, Int.reduceLT, Int.reduceLE, Int.reduceEq, Int.reduceNe, Int.reduceNeg, Int.reduceAdd, Int.reduceSub, Int.reduceMul, if_true, if_false, ite_true, ite_false, reduceIte, true_and, and_true, true_implies, forall_const, decide_eq_true_eq, decide_eq_false_iff_not, Bool.not_eq_true', Bool.not_eq_false', Bool.and_eq_true, Bool.or_eq_true, Bool.and_eq_false_iff, Bool.or_eq_false_iff, Bool.not_eq_true, Bool.not_eq_false, Bool.false_eq_true, Bool.true_eq_false, false_implies, implies_true, b2i_ne, b2i_eq, zB_b2i, not_true_eq_false, not_false_eq_true, List.drop_zero, List.drop_succ_cons, zIn_iff, zI8_iff, or_false, false_or, or_true, true_or, and_false, false_and, Decidable.not_not, laq z.1.1.1.1, z.1.1.2.2.2.1, z.1.1.2.2.2.2.1, tr5, pr5, hneI, ew]
      exact hR τ z.1 z.2
end
