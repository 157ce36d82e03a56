/-! the grammar: tokens by number, trees as Format -/
abbrev Fm : Type := Std.Format
abbrev Rs : Type := Except (Nat × Nat) (Fm × Nat)
def nd (k i : Nat) (a b : Fm) : Fm := .tag k (.tag i (.append a b))
def isAt (k : Nat) : Bool := decide (k = 2) || decide (k = 4) || decide (k = 3) || decide (k = 9)
def bgn (k : Nat) : Bool := isAt k || decide (k = 16) || decide (k = 5) || decide (k = 7)
/-- names in a row (with _ among them, if it may be) -/
def pNm (kd : Nat → Nat) (bl : Bool) : Nat → Nat → Fm × Nat
  | 0, i => (.nil, i)
  | f + 1, i => if kd i = 2 ∨ (bl = true ∧ kd i = 24) then (.append (nd 9 i .nil .nil) (pNm kd bl f (i + 1)).1, (pNm kd bl f (i + 1)).2) else (.nil, i)
def pTo (kd : Nat → Nat) (k i : Nat) (c : Rs) : Rs := if kd i = k then c else .error (1, i)
def pBd (r : Rs) (c : Fm → Nat → Rs) : Rs := match r with
  | .ok (t, j) => c t j
  | .error x => .error x
theorem pBd_ok (t : Fm) (j : Nat) (c : Fm → Nat → Rs) : pBd (.ok (t, j)) c = c t j := rfl
theorem pBd_er (x : Nat × Nat) (c : Fm → Nat → Rs) : pBd (.error x) c = .error x := rfl
theorem pTo_y {kd : Nat → Nat} {k i : Nat} {c : Rs} (h : kd i = k) : pTo kd k i c = c := if_pos h
theorem pTo_n {kd : Nat → Nat} {k i : Nat} {c : Rs} (h : ¬ kd i = k) : pTo kd k i c = .error (1, i) := if_neg h
def pBind (kd : Nat → Nat) (F : Nat) (E : Nat → Rs) (i : Nat) : Rs :=
  pTo kd 14 (pNm kd false F (i + 1)).2 (pBd (E ((pNm kd false F (i + 1)).2 + 1)) fun t j => .ok (nd 6 i (pNm kd false F (i + 1)).1 t, j))
def pAtom (kd : Nat → Nat) (E : Nat → Rs) (i : Nat) : Rs :=
  if kd i = 2 then .ok (nd 0 i .nil .nil, i + 1) else if kd i = 4 then .ok (nd 1 i .nil .nil, i + 1) else if kd i = 3 then .ok (nd 2 i .nil .nil, i + 1)
  else pTo kd 9 i (pBd (E (i + 1)) fun t j => pTo kd 10 j (.ok (t, j + 1)))
def pArgs (kd : Nat → Nat) (E : Nat → Rs) : Nat → Nat → Rs
  | 0, i => .ok (.nil, i)
  | f + 1, i => if isAt (kd i) = true then pBd (pAtom kd E i) fun a j => pBd (pArgs kd E f j) fun r k => .ok (.append (nd 11 i a .nil) r, k) else .ok (.nil, i)
def pUse (kd : Nat → Nat) (F : Nat) (E : Nat → Rs) (i : Nat) : Rs :=
  pBd (pAtom kd E i) fun h j => pBd (pArgs kd E F j) fun as k => match as with
    | .nil => .ok (h, k)
    | as => if kd i = 3 then .ok (nd 2 i as .nil, k) else .ok (nd 3 i h as, k)
def pProdL (kd : Nat → Nat) (F : Nat) (E : Nat → Rs) : Nat → Fm → Nat → Rs
  | 0, a, i => .ok (a, i)
  | f + 1, a, i => if kd i = 19 ∨ kd i = 20 then pBd (pUse kd F E (i + 1)) fun b j => pProdL kd F E f (nd 10 i a b) j else .ok (a, i)
def pProd (kd : Nat → Nat) (F : Nat) (E : Nat → Rs) (i : Nat) : Rs := pBd (pUse kd F E i) fun a j => pProdL kd F E F a j
def pSumL (kd : Nat → Nat) (F : Nat) (E : Nat → Rs) : Nat → Fm → Nat → Rs
  | 0, a, i => .ok (a, i)
  | f + 1, a, i => if kd i = 17 ∨ kd i = 18 then pBd (pProd kd F E (i + 1)) fun b j => pSumL kd F E f (nd 10 i a b) j else .ok (a, i)
def pSum (kd : Nat → Nat) (F : Nat) (E : Nat → Rs) (i : Nat) : Rs := pBd (pProd kd F E i) fun a j => pSumL kd F E F a j
def pCmp (kd : Nat → Nat) (F : Nat) (E : Nat → Rs) (i : Nat) : Rs := pBd (pSum kd F E i) fun a j => if kd j = 21 ∨ kd j = 22 ∨ kd j = 23 then pBd (pSum kd F E (j + 1)) fun b k => .ok (nd 10 j a b, k) else .ok (a, j)
def pLam (kd : Nat → Nat) (F : Nat) (E : Nat → Rs) (i : Nat) : Rs :=
  pTo kd 2 (i + 1) (pTo kd 15 (pNm kd false F (i + 1)).2 (pBd (E ((pNm kd false F (i + 1)).2 + 1)) fun t j => .ok (nd 4 i (pNm kd false F (i + 1)).1 t, j)))
def pBs (kd : Nat → Nat) (F : Nat) (E : Nat → Rs) : Nat → Nat → Rs
  | 0, i => .error (1, i)
  | f + 1, i => pTo kd 2 i (pBd (pBind kd F E i) fun b j => if kd j = 13 then pBd (pBs kd F E f (j + 1)) fun r k => .ok (.append b r, k) else .ok (.append b .nil, j))
def pLet (kd : Nat → Nat) (F : Nat) (E : Nat → Rs) (i : Nat) : Rs :=
  pBd (pBs kd F E F (i + 1)) fun bs j => pTo kd 6 j (pBd (E (j + 1)) fun t k => .ok (nd 5 i bs t, k))
/-- an alt's pattern: its names, what is behind it -/
def pPat (kd : Nat → Nat) (F i : Nat) : Rs :=
  if kd i = 3 then .ok (pNm kd true F (i + 1)) else if kd i = 18 then pTo kd 4 (i + 1) (.ok (.nil, i + 2)) else if kd i = 4 then .ok (.nil, i + 1)
  else if kd i = 2 ∨ kd i = 24 then .ok (.append (nd 9 i .nil .nil) .nil, i + 1) else .error (1, i)
def pAlt (kd : Nat → Nat) (F : Nat) (E : Nat → Rs) (i : Nat) : Rs :=
  pBd (pPat kd F i) fun nl j => pTo kd 15 j (pBd (E (j + 1)) fun t k => .ok (nd 8 i nl t, k))
def pAs (kd : Nat → Nat) (F : Nat) (E : Nat → Rs) : Nat → Nat → Rs
  | 0, i => .error (1, i)
  | f + 1, i => pBd (pAlt kd F E i) fun b j => if kd j = 13 then pBd (pAs kd F E f (j + 1)) fun r k => .ok (.append b r, k) else .ok (.append b .nil, j)
def pCase (kd : Nat → Nat) (F : Nat) (E : Nat → Rs) (i : Nat) : Rs :=
  pBd (E (i + 1)) fun s j => pTo kd 8 j (pTo kd 11 (j + 1) (pBd (pAs kd F E F (j + 2)) fun as k => pTo kd 12 k (.ok (nd 7 i s as, k + 1))))
def pBody (kd : Nat → Nat) (F : Nat) (E : Nat → Rs) (i : Nat) : Rs :=
  if kd i = 16 then pLam kd F E i else if kd i = 5 then pLet kd F E i else if kd i = 7 then pCase kd F E i else pCmp kd F E i
/-- an expression, with so many levels left -/
def pEx (kd : Nat → Nat) (F : Nat) : Nat → Nat → Rs
  | 0, i => .error (if bgn (kd i) = true then 3 else 1, i)
  | k + 1, i => pBody kd F (pEx kd F k) i
def pProg (kd : Nat → Nat) (F : Nat) (E : Nat → Rs) : Nat → Nat → Rs
  | 0, i => .ok (.nil, i)
  | f + 1, i => if kd i = 2 then pBd (pBind kd F E i) fun b j => pTo kd 13 j (pBd (pProg kd F E f (j + 1)) fun r k => .ok (.append b r, k)) else pTo kd 0 i (.ok (.nil, i))
def pAsk (kd : Nat → Nat) (F : Nat) : Rs := pBd (pEx kd F 20 0) fun t j => pTo kd 0 j (.ok (t, j))
/-- how many are in a row -/
def fLen : Fm → Nat
  | .append _ t => fLen t + 1
  | _ => 0
/-- a tree in LazyForms' rows: X 0 form, 1 place, 2 a, 3 b, 4 c, 5 mask, 6 next, 7 token -/
def rX (kd : Nat → Nat) (pl vl mk : Nat → Int) (X : Nat → Nat → Int) : Nat → Nat → Fm → Int → Prop
  | _, _, .nil, n => n = -1
  | lo, hi, .append h t, n => ∃ m : Nat, n = (m : Int) ∧ lo ≤ m ∧ m < hi ∧ rX kd pl vl mk X lo hi h m ∧ rX kd pl vl mk X lo hi t (X 6 m)
  | lo, hi, .tag k (.tag i (.append a b)), n => ∃ m : Nat, n = (m : Int) ∧ lo ≤ m ∧ m < hi ∧ X 0 m = (if k = 11 then 9 else (k : Int)) ∧ (k ≠ 8 → X 1 m = pl i) ∧
      (k = 0 → X 7 m = i) ∧
      (k = 1 → X 2 m = vl i) ∧
      (k = 2 → X 2 m = mk i ∧ rX kd pl vl mk X lo hi a (X 3 m) ∧ X 4 m = fLen a) ∧
      (k = 3 → rX kd pl vl mk X lo hi a (X 2 m) ∧ rX kd pl vl mk X lo hi b (X 3 m) ∧ X 4 m = fLen b) ∧
      (k = 4 → X 2 m = fLen a ∧ rX kd pl vl mk X lo hi a (X 7 m) ∧ rX kd pl vl mk X lo hi b (X 4 m)) ∧
      ((k = 5 ∨ k = 7 ∨ k = 10) → rX kd pl vl mk X lo hi a (X 2 m) ∧ rX kd pl vl mk X lo hi b (X 3 m)) ∧
      (k = 6 → X 7 m = i ∧ (fLen a = 0 → rX kd pl vl mk X lo m b (X 3 m)) ∧ (0 < fLen a → X 3 m = ((m + 1 : Nat) : Int) ∧ m + 1 < hi ∧ X 0 (m + 1) = 4 ∧ X 1 (m + 1) = pl i ∧ X 2 (m + 1) = fLen a ∧ rX kd pl vl mk X lo m a (X 7 (m + 1)) ∧ rX kd pl vl mk X lo m b (X 4 (m + 1)))) ∧
      (k = 8 → X 1 m = (if kd i = 3 then mk i else if kd i = 4 then vl i else if kd i = 18 then -vl (i + 1) else 0) ∧ X 7 m = i ∧ X 2 m = (if kd i = 3 then 0 else if kd i = 4 ∨ kd i = 18 then 1 else if kd i = 2 then 2 else 3) ∧ (kd i = 24 → X 3 m = -1) ∧ (kd i ≠ 24 → rX kd pl vl mk X lo m a (X 3 m)) ∧ rX kd pl vl mk X lo m b (X 4 m)) ∧
      (k = 9 → X 7 m = if kd i = 24 then -1 else (i : Int)) ∧
      (k = 10 → X 4 m = kd i) ∧
      (k = 11 → rX kd pl vl mk X lo m a (X 2 m))
  | _, _, _, _ => False
