/-! The mini machine: one memory, tagged values (1 int, 2 long, 3 reference; 0 nothing), the instructions of the class files. -/
abbrev zTV : Type := Nat × Int
abbrev zK : Type := Int → Mem → Prop
abbrev zCS : Type := Nat → List Int → Mem → zK → zK → Prop
abbrev zGo : Type := Nat → List zTV → List zTV → Mem → Prop
/-- own class, in a constructor, what it returns, code, handlers -/
abbrev zCx : Type := Nat × Bool × Nat × (Nat → Option (Instr × Nat)) × List (Nat × Nat × Nat × Nat)
def zP1 (t : Nat) (st : List zTV) (k : Int → List zTV → Prop) : Prop := match st with
  | (a, x) :: r => a = t ∧ k x r
  | [] => False
def zP2 (t u : Nat) (st : List zTV) (k : Int → Int → List zTV → Prop) : Prop := match st with
  | (b, y) :: (a, x) :: r => a = t ∧ b = u ∧ k x y r
  | _ => False
def zP3 (t u v : Nat) (st : List zTV) (k : Int → Int → Int → List zTV → Prop) : Prop := match st with
  | (c, z) :: (b, y) :: (a, x) :: r => a = t ∧ b = u ∧ c = v ∧ k x y z r
  | _ => False
/-- the arguments, the last on top -/
def zArgs : List Nat → List zTV → List Int → (List Int → List zTV → Prop) → Prop
  | [], st, acc, k => k acc st
  | t :: ts, st, acc, k => zP1 t st (fun x r => zArgs ts r (x :: acc) k)
def zLd (t i : Nat) (env : List zTV) (k : Int → Prop) : Prop := match env[i]? with
  | some (a, x) => a = t ∧ k x
  | none => False
/-- a store into a local: a long that lay across it is gone -/
def sto : Nat → zTV → List zTV → List zTV
  | _, _, [] => []
  | 0, v, _ :: t => v :: t
  | 1, v, x :: t => (if x.1 = 2 then (0, 0) else x) :: sto 0 v t
  | n + 2, v, x :: t => x :: sto (n + 1) v t
def stoL (i : Nat) (x : Int) (env : List zTV) : List zTV := sto i (2, x) (sto (i + 1) (0, 0) env)
def mset (σ : Mem) (o k : Nat) (v : Int) : Mem := fun a b => if a = o then (if b = k then v else σ a b) else σ a b
/-- a new object: number σ 0 0 -/
def mnew (σ : Mem) : Mem := fun a b => if a = 0 then (if b = 0 then σ 0 0 + 1 else σ a b) else if a = (σ 0 0).toNat then 0 else σ a b
def mcpy (σ : Mem) (a i b j n : Nat) : Mem := fun o k => if o = b then (if j ≤ k ∧ k < j + n then σ a (i + (k - j)) else σ o k) else σ o k
def iAnd (x y : Int) : Int := (Int32.ofInt x &&& Int32.ofInt y).toInt
def iOr (x y : Int) : Int := (Int32.ofInt x ||| Int32.ofInt y).toInt
def iXor (x y : Int) : Int := (Int32.ofInt x ^^^ Int32.ofInt y).toInt
def iShl (x y : Int) : Int := (Int32.ofInt x <<< (Int32.ofInt y &&& 31)).toInt
def iShr (x y : Int) : Int := (Int32.ofInt x >>> (Int32.ofInt y &&& 31)).toInt
def iUshr (x y : Int) : Int := ((Int32.ofInt x).toUInt32 >>> ((Int32.ofInt y).toUInt32 &&& Int32.toUInt32 31)).toInt32.toInt
def lAnd (x y : Int) : Int := (Int64.ofInt x &&& Int64.ofInt y).toInt
def lOr (x y : Int) : Int := (Int64.ofInt x ||| Int64.ofInt y).toInt
def lShl (x y : Int) : Int := (Int64.ofInt x <<< ((Int32.ofInt y).toInt64 &&& 63)).toInt
def lShr (x y : Int) : Int := (Int64.ofInt x >>> ((Int32.ofInt y).toInt64 &&& 63)).toInt
def lCmp (x y : Int) : Int := if x < y then -1 else if x = y then 0 else 1
def zcmp (c : ClassFile.Cond) (x y : Int) : Prop := match c with
  | .eq => x = y | .ne => x ≠ y | .lt => x < y | .ge => y ≤ x | .gt => y < x | .le => x ≤ y
def zI32 (x : Int) : Prop := -2147483648 ≤ x ∧ x < 2147483648
def zI8 (x : Int) : Prop := -128 ≤ x ∧ x < 128
def zB (x : Int) : Prop := x = 0 ∨ x = 1
def zTag (c : Nat) : Nat := if c = 4 then 1 else c
/-- the shape of an object: (1 int[] | 2 byte[] | 3 boolean[] | 4 long[], length) or (5, class) -/
def zSh (σ : Mem) (o : Nat) : Nat × Nat := if o = 4 then (1, (σ 0 1).toNat) else tShape.getD o (0, 0)
/-- in range, and the object isn't null -/
def zIn (i : Int) (n : Nat) : Prop := 0 ≤ i ∧ i < (n : Int)
def zAt : ArrayType → Nat
  | .int => 1 | .byte => 2 | .boolean => 3 | .long => 4 | _ => 0
def zThr (cx : zCx) (T : zK) (go : zGo) (pc : Nat) (env : List zTV) (o : Int) (σ : Mem) : Prop := match cx.2.2.2.2 with
  | [] => T o σ
  | (a, b, h, ct) :: _ => if a ≤ pc ∧ pc < b then ∃ ci, tClass cx.1 ct = some ci ∧ zSh σ o.toNat = (5, ci) ∧ 0 < o ∧ go h env [(3, o)] σ else T o σ
def zJmp (pc : Nat) (off : Int) (k : Nat → Prop) : Prop := 0 ≤ (pc : Int) + off ∧ k ((pc : Int) + off).toNat
def zBr (c : Prop) (pc len : Nat) (off : Int) (k : Nat → Prop) : Prop := 0 ≤ (pc : Int) + off ∧ (c → k ((pc : Int) + off).toNat) ∧ (¬ c → k (pc + len))
def zCall (C : zCS) (cx : zCx) (T : zK) (go : zGo) (pc n : Nat) (env st : List zTV) (σ : Mem) (y : Nat) : Prop :=
  zArgs (tArgs y) st [] fun as r => r.length ≤ 8 ∧ C y as σ (fun v σ' => go n env (if tRet y = 0 then r else (zTag (tRet y), v) :: r) σ') (fun o σ' => zThr cx T go pc env o σ')
def zSw (pc : Nat) (d : Int) (ps : List (Int × Int)) (x : Int) (k : Nat → Prop) : Prop := match ps with
  | [] => zJmp pc d k
  | (v, o) :: t => (x = v → zJmp pc o k) ∧ (x ≠ v → zSw pc d t x k)
def zTab (lo : Int) : List Int → List (Int × Int)
  | [] => []
  | o :: t => (lo, o) :: zTab (lo + 1) t
def zIns (C : zCS) (cx : zCx) (R T : zK) (go : zGo) (pc len : Nat) (env st : List zTV) (σ : Mem) (i : Instr) : Prop :=
  let n := pc + len
  let ps := fun (t : Nat) (x : Int) (r : List zTV) => go n env ((t, x) :: r) σ
  match i with
  | .iconst v => (zI8 v) ∧ ps 1 v st
  | .bipush v => (zI8 v) ∧ ps 1 v st
  | .sipush v => (-32768 ≤ v ∧ v < 32768) ∧ ps 1 v st
  | .lconst v => ps 2 (v : Nat) st
  | .ldc k => ∃ v, tInt cx.1 k = some v ∧ ps 1 v st
  | .ldc_w k => ∃ v, tInt cx.1 k = some v ∧ ps 1 v st
  | .ldc2_w k => ∃ v, tLong cx.1 k = some v ∧ ps 2 v st
  | .iload k => zLd 1 k env (fun x => ps 1 x st)
  | .iload_n k => zLd 1 k env (fun x => ps 1 x st)
  | .lload k => zLd 2 k env (fun x => ps 2 x st)
  | .lload_n k => zLd 2 k env (fun x => ps 2 x st)
  | .aload k => zLd 3 k env (fun x => ps 3 x st)
  | .aload_n k => zLd 3 k env (fun x => ps 3 x st)
  | .istore k => zP1 1 st fun x r => k < env.length ∧ go n (sto k (1, x) env) r σ
  | .istore_n k => zP1 1 st fun x r => (k : Nat) < env.length ∧ go n (sto k (1, x) env) r σ
  | .lstore k => zP1 2 st fun x r => k + 1 < env.length ∧ go n (stoL k x env) r σ
  | .lstore_n k => zP1 2 st fun x r => (k : Nat) + 1 < env.length ∧ go n (stoL k x env) r σ
  | .astore k => zP1 3 st fun x r => k < env.length ∧ go n (sto k (3, x) env) r σ
  | .astore_n k => zP1 3 st fun x r => (k : Nat) < env.length ∧ go n (sto k (3, x) env) r σ
  | .iinc k v => zLd 1 k env (fun x => k < env.length ∧ go n (sto k (1, w32 (x + v)) env) st σ)
  | .iadd => zP2 1 1 st fun x y r => ps 1 (w32 (x + y)) r
  | .isub => zP2 1 1 st fun x y r => ps 1 (w32 (x - y)) r
  | .imul => zP2 1 1 st fun x y r => ps 1 (w32 (x * y)) r
  | .idiv => zP2 1 1 st fun x y r => y ≠ 0 ∧ ps 1 (w32 (x.tdiv y)) r
  | .irem => zP2 1 1 st fun x y r => y ≠ 0 ∧ ps 1 (x.tmod y) r
  | .iand => zP2 1 1 st fun x y r => ps 1 (iAnd x y) r
  | .ior => zP2 1 1 st fun x y r => ps 1 (iOr x y) r
  | .ixor => zP2 1 1 st fun x y r => ps 1 (iXor x y) r
  | .ishl => zP2 1 1 st fun x y r => ps 1 (iShl x y) r
  | .ishr => zP2 1 1 st fun x y r => ps 1 (iShr x y) r
  | .iushr => zP2 1 1 st fun x y r => ps 1 (iUshr x y) r
  | .ineg => zP1 1 st fun x r => ps 1 (w32 (-x)) r
  | .ladd => zP2 2 2 st fun x y r => ps 2 (w64 (x + y)) r
  | .lsub => zP2 2 2 st fun x y r => ps 2 (w64 (x - y)) r
  | .lmul => zP2 2 2 st fun x y r => ps 2 (w64 (x * y)) r
  | .ldiv => zP2 2 2 st fun x y r => y ≠ 0 ∧ ps 2 (w64 (x.tdiv y)) r
  | .lrem => zP2 2 2 st fun x y r => y ≠ 0 ∧ ps 2 (x.tmod y) r
  | .land => zP2 2 2 st fun x y r => ps 2 (lAnd x y) r
  | .lor => zP2 2 2 st fun x y r => ps 2 (lOr x y) r
  | .lshl => zP2 2 1 st fun x y r => ps 2 (lShl x y) r
  | .lshr => zP2 2 1 st fun x y r => ps 2 (lShr x y) r
  | .lneg => zP1 2 st fun x r => ps 2 (w64 (-x)) r
  | .lcmp => zP2 2 2 st fun x y r => ps 1 (lCmp x y) r
  | .i2l => zP1 1 st fun x r => ps 2 x r
  | .l2i => zP1 2 st fun x r => ps 1 (w32 x) r
  | .i2b => zP1 1 st fun x r => ps 1 (w8 x) r
  | .dup => (match st with
    | (t, x) :: r => (t = 1 ∨ t = 3) ∧ go n env ((t, x) :: (t, x) :: r) σ
    | [] => False)
  | .dup2 => zP2 3 1 st fun x y r => go n env ((1, y) :: (3, x) :: (1, y) :: (3, x) :: r) σ
  | .pop => (match st with
    | (t, _) :: r => (t = 1 ∨ t = 3) ∧ go n env r σ
    | [] => False)
  | .goto o => zJmp pc o (fun q => go q env st σ)
  | .if_icmp c o => zP2 1 1 st fun x y r => zBr (zcmp c x y) pc len o (fun q => go q env r σ)
  | .ifCond c o => zP1 1 st fun x r => zBr (zcmp c x 0) pc len o (fun q => go q env r σ)
  | .if_acmp .eq o => zP2 3 3 st fun x y r => (x = 0 ∨ 5 ≤ x) ∧ (y = 0 ∨ 5 ≤ y) ∧ zBr (x = y) pc len o (fun q => go q env r σ)
  | .if_acmp .ne o => zP2 3 3 st fun x y r => (x = 0 ∨ 5 ≤ x) ∧ (y = 0 ∨ 5 ≤ y) ∧ zBr (x ≠ y) pc len o (fun q => go q env r σ)
  | .ifnull o => zP1 3 st fun x r => zBr (x = 0) pc len o (fun q => go q env r σ)
  | .ifnonnull o => zP1 3 st fun x r => zBr (x ≠ 0) pc len o (fun q => go q env r σ)
  | .tableswitch d lo hi os => zP1 1 st fun x r => (lo + os.size = hi + 1) ∧ zSw pc d (zTab lo os.toList) x (fun q => go q env r σ)
  | .lookupswitch d qs => zP1 1 st fun x r => ((qs.toList.zip (qs.toList.drop 1)).all (fun (a, next) => a.1 < next.1) = true) ∧ zSw pc d qs.toList x (fun q => go q env r σ)
  | .getfield k => zP1 3 st fun o r => ∃ ci f t fin, tField cx.1 k = some (ci, f, t, fin) ∧ 0 < o ∧ zSh σ o.toNat = (5, ci) ∧ ps (zTag t) (σ o.toNat f) r
  | .putfield k => ∃ ci f t fin, tField cx.1 k = some (ci, f, t, fin) ∧ (fin = 1 → cx.2.1 = true) ∧ zP2 3 (zTag t) st fun o v r => 0 < o ∧ zSh σ o.toNat = (5, ci) ∧ (t = 4 → zB v) ∧ go n env r (mset σ o.toNat f v)
  | .getstatic k => ∃ o : Nat, tStat cx.1 k = some o ∧ ps 3 o st
  | .iaload => zP2 3 1 st fun a i r => 0 < a ∧ (zSh σ a.toNat).1 = 1 ∧ zIn i (zSh σ a.toNat).2 ∧ ps 1 (σ a.toNat i.toNat) r
  | .laload => zP2 3 1 st fun a i r => 0 < a ∧ (zSh σ a.toNat).1 = 4 ∧ zIn i (zSh σ a.toNat).2 ∧ ps 2 (σ a.toNat i.toNat) r
  | .baload => zP2 3 1 st fun a i r => 0 < a ∧ zIn i (zSh σ a.toNat).2 ∧ (((zSh σ a.toNat).1 = 2 ∧ (zI8 (σ a.toNat i.toNat) → ps 1 (σ a.toNat i.toNat) r)) ∨ ((zSh σ a.toNat).1 = 3 ∧ (zB (σ a.toNat i.toNat) → ps 1 (σ a.toNat i.toNat) r)))
  | .iastore => zP3 3 1 1 st fun a i v r => 4 < a ∧ (zSh σ a.toNat).1 = 1 ∧ zIn i (zSh σ a.toNat).2 ∧ go n env r (mset σ a.toNat i.toNat v)
  | .lastore => zP3 3 1 2 st fun a i v r => 4 < a ∧ (zSh σ a.toNat).1 = 4 ∧ zIn i (zSh σ a.toNat).2 ∧ go n env r (mset σ a.toNat i.toNat v)
  | .bastore => zP3 3 1 1 st fun a i v r => 4 < a ∧ zIn i (zSh σ a.toNat).2 ∧ (((zSh σ a.toNat).1 = 2 ∧ zI8 v) ∨ ((zSh σ a.toNat).1 = 3 ∧ zB v)) ∧ go n env r (mset σ a.toNat i.toNat v)
  | .arraylength => zP1 3 st fun a r => 0 < a ∧ (zSh σ a.toNat).1 = 1 ∧ ps 1 (zSh σ a.toNat).2 r
  | .newarray t => zP1 1 st fun v r => 0 ≤ v ∧ 0 < zAt t ∧ zSh σ (σ 0 0).toNat = (zAt t, v.toNat) ∧ go n env ((3, σ 0 0) :: r) (mnew σ)
  | .new k => ∃ ci, tClass cx.1 k = some ci ∧ zSh σ (σ 0 0).toNat = (5, ci) ∧ (if ci = 3 then ∃ k2, len = 3 ∧ st.length ≤ 8 ∧ cx.2.2.2.1 n = some (.dup, 1) ∧ cx.2.2.2.1 (n + 1) = some (.invokespecial k2, 3) ∧ tMeth cx.1 k2 = some 1001 ∧ go (n + 4) env ((3, σ 0 0) :: st) (mnew σ) else go n env ((3, σ 0 0) :: st) (mnew σ))
  | .invokespecial k => ∃ y, tMeth cx.1 k = some y ∧ (if y = 1000 then zP1 3 st (fun o r => 0 < o ∧ r = [] ∧ go n env r σ) else y < 1000 ∧ zCall C cx T go pc n env st σ y)
  | .invokevirtual k => ∃ y, tMeth cx.1 k = some y ∧ y < 1000 ∧ zCall C cx T go pc n env st σ y
  | .invokestatic k => ∃ y, tMeth cx.1 k = some y ∧ (if y = 1002 then (match st with
      | (1, c) :: (1, j) :: (3, b) :: (1, i) :: (3, a) :: r => r = [] ∧ 4 < a ∧ 4 < b ∧ a ≠ b ∧ 0 ≤ i ∧ 0 ≤ j ∧ 0 ≤ c ∧ (zSh σ a.toNat).1 = 2 ∧ (zSh σ b.toNat).1 = 2 ∧ i + c ≤ ((zSh σ a.toNat).2 : Int) ∧ j + c ≤ ((zSh σ b.toNat).2 : Int) ∧ go n env r (mcpy σ a.toNat i.toNat b.toNat j.toNat c.toNat)
      | _ => False) else y < 1000 ∧ zCall C cx T go pc n env st σ y)
  | .athrow => zP1 3 st fun o _ => 0 < o ∧ zThr cx T go pc env o σ
  | .ireturn => zP1 1 st fun x r => r = [] ∧ (cx.2.2.1 = 1 ∨ (cx.2.2.1 = 4 ∧ zB x)) ∧ R x σ
  | .lreturn => zP1 2 st fun x r => r = [] ∧ cx.2.2.1 = 2 ∧ R x σ
  | .areturn => zP1 3 st fun x r => r = [] ∧ cx.2.2.1 = 3 ∧ R x σ
  | .return_ => cx.2.2.1 = 0 ∧ st = [] ∧ R 0 σ
  | _ => False
def zStp (C : zCS) (cx : zCx) (R T : zK) (go : zGo) (pc : Nat) (env st : List zTV) (σ : Mem) : Prop := match cx.2.2.2.1 pc with
  | some (i, len) => zIns C cx R T go pc len env st σ i
  | none => False
/-- from here the method ends, with R or T (the least such) -/
def zRun (C : zCS) (cx : zCx) (R T : zK) (pc : Nat) (env st : List zTV) (σ : Mem) : Prop :=
  ∀ P : zGo, (∀ pc env st σ, zStp C cx R T P pc env st σ → P pc env st σ) → P pc env st σ
