/-! ===== the small machine: the bytecode that this claim runs, over a memory of functions ===== -/
abbrev zV : Type := Int32 ⊕ (Option Nat ⊕ Int64)
abbrev zL : Type := List (Option zV)
/-- kinds of addresses, lengths of arrays, references, ints, longs, the next address, slots used -/
abbrev zM : Type := (Nat → Nat) × (Nat → Nat) × (Nat → Nat → Option Nat) × (Nat → Nat → Int32) × (Nat → Nat → Int64) × Nat × Nat
abbrev zR : Type := (Option zV ⊕ Nat) × zM
/-- the first address that may be written, the addresses of the texts, statics that are only known to be references -/
abbrev zE : Type := Nat × (Nat → Nat) × (Nat → Option Nat)
def zi (x : Int32) : zV := Sum.inl x
def zr (o : Option Nat) : zV := Sum.inr (Sum.inl o)
def zl (x : Int64) : zV := Sum.inr (Sum.inr x)
def zup {α : Type} (f : Nat → Nat → α) (a k : Nat) (v : α) : Nat → Nat → α := fun b j => if b = a ∧ j = k then v else f b j
def mK (M : zM) : Nat → Nat := M.1
def mN (M : zM) : Nat → Nat := M.2.1
def mJ (M : zM) : Nat → Nat → Option Nat := M.2.2.1
def mI (M : zM) : Nat → Nat → Int32 := M.2.2.2.1
def mG (M : zM) : Nat → Nat → Int64 := M.2.2.2.2.1
def mS (M : zM) : Nat := M.2.2.2.2.2.1
def mU (M : zM) : Nat := M.2.2.2.2.2.2
def sI (M : zM) (a k : Nat) (v : Int32) : zM := (mK M, mN M, mJ M, zup (mI M) a k v, mG M, mS M, mU M)
def sJ (M : zM) (a k : Nat) (v : Option Nat) : zM := (mK M, mN M, zup (mJ M) a k v, mI M, mG M, mS M, mU M)
def sG (M : zM) (a k : Nat) (v : Int64) : zM := (mK M, mN M, mJ M, mI M, zup (mG M) a k v, mS M, mU M)
/-- a new cell of kind κ, length n, w slots -/
def zal (M : zM) (κ n w : Nat) : zM := (fun a => if a = mS M then κ else mK M a, fun a => if a = mS M then n else mN M a, fun a k => if a = mS M then none else mJ M a k, fun a k => if a = mS M then 0 else mI M a k, fun a k => if a = mS M then 0 else mG M a k, mS M + 1, mU M + w)
def zcpf {α : Type} (f : Nat → Nat → α) (a b sp dp n : Nat) : Nat → Nat → α := fun c j => if c = b ∧ dp ≤ j ∧ j < dp + n then f a (sp + (j - dp)) else f c j
def zcI (M : zM) (a b sp dp n : Nat) : zM := (mK M, mN M, mJ M, zcpf (mI M) a b sp dp n, mG M, mS M, mU M)
def zcJ (M : zM) (a b sp dp n : Nat) : zM := (mK M, mN M, zcpf (mJ M) a b sp dp n, mI M, mG M, mS M, mU M)
/-- no answer (four names of it: the machine's own steps are unfolded ahead of what they leave) -/
def zh1 : Option zR := none
def zh2 : Option zR := zh1
def zh3 : Option zR := zh2
def zh4 : Option zR := zh3
theorem zh_n : zh4 = none := rfl
def zdr (o : Option Nat) (f : Nat → Option zR) : Option zR := match o with
  | some a => f a
  | none => none
def zif (b : Bool) (r : Option zR) : Option zR := match b with
  | true => r
  | false => none
def zkb (k : Nat) : List Nat → Bool
  | [] => false
  | c :: l => (k == c) || zkb k l
def zix (j : Int32) (n : Nat) : Bool := decide (0 ≤ j) && decide (j.toNatClampNeg < n)
/-- a size that an array may have here -/
def zsz (j : Int32) : Bool := decide (0 ≤ j) && decide (j.toNatClampNeg < 65536)
def znth : zL → Nat → Option zV
  | [], _ => none
  | a :: _, 0 => a
  | _ :: l, k + 1 => znth l k
def zset : zL → Nat → Option zV → zL
  | [], _, _ => []
  | _ :: l, 0, v => v :: l
  | a :: l, k + 1, v => a :: zset l k v
def zx : List Nat → Nat → Nat
  | [], _ => 0
  | a :: _, 0 => a
  | _ :: l, k + 1 => zx l k
def zli (ls : zL) (k : Nat) (f : Int32 → Option zR) : Option zR := match znth ls k with
  | some (Sum.inl x) => f x
  | _ => zh4
def zlr (ls : zL) (k : Nat) (f : Option Nat → Option zR) : Option zR := match znth ls k with
  | some (Sum.inr (Sum.inl o)) => f o
  | _ => zh4
def zll (ls : zL) (k : Nat) (f : Int64 → Option zR) : Option zR := match znth ls k with
  | some (Sum.inr (Sum.inr x)) => f x
  | _ => zh4
/-- store into a local; with a second number in x: not behind a long -/
def zss (ls : zL) (x : List Nat) (w : zV) (f : zL → Option zR) : Option zR := match x with
  | [] => zh4
  | [i] => f (zset ls i (some w))
  | i :: _ :: _ => match znth ls (i - 1) with
    | some (Sum.inr (Sum.inr _)) => none
    | _ => f (zset ls i (some w))
def zp1 (st : List zV) (f : Int32 → List zV → Option zR) : Option zR := match st with
  | Sum.inl x :: r => f x r
  | _ => zh4
def zp2 (st : List zV) (f : Int32 → Int32 → List zV → Option zR) : Option zR := zp1 st fun b r => zp1 r fun a r => f a b r
def zpr (st : List zV) (f : Option Nat → List zV → Option zR) : Option zR := match st with
  | Sum.inr (Sum.inl o) :: r => f o r
  | _ => zh4
def zpl (st : List zV) (f : Int64 → List zV → Option zR) : Option zR := match st with
  | Sum.inr (Sum.inr x) :: r => f x r
  | _ => zh4
def zpl2 (st : List zV) (f : Int64 → Int64 → List zV → Option zR) : Option zR := zpl st fun b r => zpl r fun a r => f a b r
/-- a value of one slot -/
def zpc (st : List zV) (f : zV → List zV → Option zR) : Option zR := match st with
  | Sum.inl x :: r => f (zi x) r
  | Sum.inr (Sum.inl o) :: r => f (zr o) r
  | _ => zh4
/-- n arguments of one slot each -/
def ztk : Nat → List zV → List zV → (List zV → List zV → Option zR) → Option zR
  | 0, acc, st, f => f acc st
  | n + 1, acc, st, f => zpc st fun v r => ztk n (v :: acc) r f
def zsm : List zV → Nat
  | [] => 0
  | Sum.inr (Sum.inr _) :: r => 2 + zsm r
  | _ :: r => 1 + zsm r
/-- q is thrown at pc -/
def zth (bk : Nat → zL → List zV → zM → Option zR) (hh : List Nat) (pc : Nat) (ls : zL) (q : Nat) (M : zM) : Option zR := match hh with
  | [] => some (Sum.inr q, M)
  | s :: e :: t :: κ :: _ => match (Nat.ble s pc && Nat.blt pc e) with
    | true => zif (mK M q == κ) (bk t ls [zr (some q)] M)
    | false => some (Sum.inr q, M)
  | _ => none
/-- behind a call -/
def zcv (r : Option zR) (th : Nat → zM → Option zR) (f : zM → Option zR) : Option zR := match r with
  | some (Sum.inl none, M) => f M
  | some (Sum.inr q, M) => th q M
  | _ => none
def zci (r : Option zR) (th : Nat → zM → Option zR) (f : Int32 → zM → Option zR) : Option zR := match r with
  | some (Sum.inl (some (Sum.inl x)), M) => f x M
  | some (Sum.inr q, M) => th q M
  | _ => none
def zcr (r : Option zR) (th : Nat → zM → Option zR) (f : Option Nat → zM → Option zR) : Option zR := match r with
  | some (Sum.inl (some (Sum.inr (Sum.inl o))), M) => f o M
  | some (Sum.inr q, M) => th q M
  | _ => none
def zcg (r : Option zR) (th : Nat → zM → Option zR) (f : Int64 → zM → Option zR) : Option zR := match r with
  | some (Sum.inl (some (Sum.inr (Sum.inr x))), M) => f x M
  | some (Sum.inr q, M) => th q M
  | _ => none
/-- a call of y, its answer of type t (0 none, 1 int, 2 reference, 3 long) -/
def zcall (cf : Nat → List zV → zM → Option zR) (th : Nat → zM → Option zR) (k : List zV → zM → Option zR) (t y : Nat) (as r : List zV) (M : zM) : Option zR := zif (Nat.ble (zsm r) 8) (match t with
  | 0 => zcv (cf y as M) th fun M => k r M
  | 1 => zci (cf y as M) th fun x M => k (zi x :: r) M
  | 2 => zcr (cf y as M) th fun o M => k (zr o :: r) M
  | _ => zcg (cf y as M) th fun x M => k (zl x :: r) M)
/-- the callee by the receiver's kind: pairs kind, method -/
def zvc (κ : Nat) : List Nat → (Nat → Option zR) → Option zR
  | c :: y :: l, f => match l with
    | [] => zif (κ == c) (f y)
    | _ => if κ = c then f y else zvc κ l f
  | _, _ => none
/-- a switch: pairs key, place -/
def zsw (a : Int32) : List Nat → Nat → (Nat → Option zR) → Option zR
  | c :: t :: l, d, f => if a = Int32.ofNat c then f t else zsw a l d f
  | _, d, f => f d
/-- the n references from place sp on are laws or null -/
def zck (M : zM) (a sp n : Nat) : Bool := (List.range n).all fun i => match mJ M a (sp + i) with
  | none => true
  | some b => zkb (mK M b) [13, 14, 15, 16]
def zst (E : zE) (cf : Nat → List zV → zM → Option zR) (bk : Nat → zL → List zV → zM → Option zR) (hh : List Nat) (k : zL → List zV → zM → Option zR) (pc : Nat) (i : Instr) (v : Int32) (x : List Nat) (ls : zL) (st : List zV) (M : zM) : Option zR := match i with
  | .aload_n _ => zlr ls (zx x 0) fun o => k ls (zr o :: st) M
  | .aload _ => zlr ls (zx x 0) fun o => k ls (zr o :: st) M
  | .iload_n _ => zli ls (zx x 0) fun a => k ls (zi a :: st) M
  | .iload _ => zli ls (zx x 0) fun a => k ls (zi a :: st) M
  | .lload_n _ => zll ls (zx x 0) fun a => k ls (zl a :: st) M
  | .istore_n _ => zp1 st fun a r => zss ls x (zi a) fun ls => k ls r M
  | .istore _ => zp1 st fun a r => zss ls x (zi a) fun ls => k ls r M
  | .astore_n _ => zpr st fun o r => zss ls x (zr o) fun ls => k ls r M
  | .astore _ => zpr st fun o r => zss ls x (zr o) fun ls => k ls r M
  | .lstore_n _ => zpl st fun a r => zss ls x (zl a) fun ls => k (zset ls (zx x 0 + 1) none) r M
  | .iinc _ _ => zli ls (zx x 0) fun a => zss ls x (zi (a + v)) fun ls => k ls st M
  | .iconst _ => k ls (zi v :: st) M
  | .bipush _ => k ls (zi v :: st) M
  | .sipush _ => k ls (zi v :: st) M
  | .lconst _ => k ls (zl (Int64.ofNat (zx x 0)) :: st) M
  | .aconst_null => k ls (zr none :: st) M
  | .ldc _ => match x with
    | [] => k ls (zi v :: st) M
    | n :: _ => k ls (zr (some (E.2.1 n)) :: st) M
  | .ldc_w _ => match x with
    | [] => k ls (zi v :: st) M
    | n :: _ => k ls (zr (some (E.2.1 n)) :: st) M
  | .ldc2_w _ => k ls (zl (Int64.ofNat (zx x 0)) :: st) M
  | .iadd => zp2 st fun a b r => k ls (zi (a + b) :: r) M
  | .isub => zp2 st fun a b r => k ls (zi (a - b) :: r) M
  | .imul => zp2 st fun a b r => k ls (zi (a * b) :: r) M
  | .idiv => zp2 st fun a b r => zif (b != 0) (k ls (zi (a / b) :: r) M)
  | .irem => zp2 st fun a b r => zif (b != 0) (k ls (zi (a - a / b * b) :: r) M)
  | .ineg => zp1 st fun a r => k ls (zi (-a) :: r) M
  | .ishl => zp2 st fun a b r => k ls (zi (a <<< (b &&& 31)) :: r) M
  | .ishr => zp2 st fun a b r => k ls (zi (a >>> (b &&& 31)) :: r) M
  | .iushr => zp2 st fun a b r => k ls (zi (UInt32.toInt32 (Int32.toUInt32 a >>> (Int32.toUInt32 b &&& Int32.toUInt32 31))) :: r) M
  | .iand => zp2 st fun a b r => k ls (zi (a &&& b) :: r) M
  | .ior => zp2 st fun a b r => k ls (zi (a ||| b) :: r) M
  | .i2b => zp1 st fun a r => k ls (zi a.toInt8.toInt32 :: r) M
  | .i2c => zp1 st fun a r => k ls (zi (a.toUInt32 % 65536).toInt32 :: r) M
  | .i2l => zp1 st fun a r => k ls (zl a.toInt64 :: r) M
  | .ladd => zpl2 st fun a b r => k ls (zl (a + b) :: r) M
  | .lmul => zpl2 st fun a b r => k ls (zl (a * b) :: r) M
  | .lcmp => zpl2 st fun a b r => k ls (zi (lg_cmp a b) :: r) M
  | .dup => zpc st fun a r => k ls (a :: a :: r) M
  | .dup2 => zpc st fun a r => zpc r fun b r => k ls (a :: b :: a :: b :: r) M
  | .pop => zpc st fun _ r => k ls r M
  | .goto _ => bk (zx x 0) ls st M
  | .if_icmp c _ => match c with
    | .eq => zp2 st fun a b r => if a = b then bk (zx x 0) ls r M else k ls r M
    | .ne => zp2 st fun a b r => if a = b then k ls r M else bk (zx x 0) ls r M
    | .lt => zp2 st fun a b r => if a < b then bk (zx x 0) ls r M else k ls r M
    | .ge => zp2 st fun a b r => if b ≤ a then bk (zx x 0) ls r M else k ls r M
    | .gt => zp2 st fun a b r => if b < a then bk (zx x 0) ls r M else k ls r M
    | .le => zp2 st fun a b r => if a ≤ b then bk (zx x 0) ls r M else k ls r M
  | .ifCond c _ => match c with
    | .eq => zp1 st fun a r => if a = 0 then bk (zx x 0) ls r M else k ls r M
    | .ne => zp1 st fun a r => if a = 0 then k ls r M else bk (zx x 0) ls r M
    | .lt => zp1 st fun a r => if a < 0 then bk (zx x 0) ls r M else k ls r M
    | .ge => zp1 st fun a r => if 0 ≤ a then bk (zx x 0) ls r M else k ls r M
    | .gt => zp1 st fun a r => if 0 < a then bk (zx x 0) ls r M else k ls r M
    | .le => zp1 st fun a r => if a ≤ 0 then bk (zx x 0) ls r M else k ls r M
  | .if_acmp c _ => match c with
    | .eq => zpr st fun b r => zpr r fun a r => if a = b then bk (zx x 0) ls r M else k ls r M
    | .ne => zpr st fun b r => zpr r fun a r => if a = b then k ls r M else bk (zx x 0) ls r M
  | .ifnull _ => zpr st fun a r => if a = none then bk (zx x 0) ls r M else k ls r M
  | .ifnonnull _ => zpr st fun a r => if a = none then k ls r M else bk (zx x 0) ls r M
  | .tableswitch _ _ _ _ => zp1 st fun a r => zsw a x.tail (zx x 0) fun t => bk t ls r M
  | .lookupswitch _ _ => zp1 st fun a r => zsw a x.tail (zx x 0) fun t => bk t ls r M
  | .getfield _ => zpr st fun o r => zdr o fun a => zif (zkb (mK M a) x.tail.tail) (match zx x 0 with
    | 1 => k ls (zi (mI M a (zx x 1)) :: r) M
    | 2 => k ls (zr (mJ M a (zx x 1)) :: r) M
    | _ => k ls (zl (mG M a (zx x 1)) :: r) M)
  | .putfield _ => match zx x 0 with
    | 0 => zp1 st fun w r => zpr r fun o r => zdr o fun a => zif (zkb (mK M a) x.tail.tail) (zif (Nat.ble E.1 a) (zif (w == 0 || w == 1) (k ls r (sI M a (zx x 1) w))))
    | 1 => zp1 st fun w r => zpr r fun o r => zdr o fun a => zif (zkb (mK M a) x.tail.tail) (zif (Nat.ble E.1 a) (k ls r (sI M a (zx x 1) w)))
    | 2 => zpr st fun w r => zpr r fun o r => zdr o fun a => zif (zkb (mK M a) x.tail.tail) (zif (Nat.ble E.1 a) (k ls r (sJ M a (zx x 1) w)))
    | 3 => zpl st fun w r => zpr r fun o r => zdr o fun a => zif (zkb (mK M a) x.tail.tail) (zif (Nat.ble E.1 a) (k ls r (sG M a (zx x 1) w)))
    | _ => zp1 st fun w r => zpr r fun o r => zdr o fun a => zif (zkb (mK M a) x.tail.tail) (zif (Nat.ble E.1 a) (zif (w.toInt8.toInt32 == w) (k ls r (sI M a (zx x 1) w))))
  | .getstatic _ => match x with
    | [] => k ls (zi v :: st) M
    | n :: _ => k ls (zr (E.2.2 n) :: st) M
  | .new _ => match x with
    | [κ, w] => k ls (zr (some (mS M)) :: st) (zal M κ 0 w)
    | _ => none
  | .newarray _ => zp1 st fun n r => zif (zsz n) (k ls (zr (some (mS M)) :: r) (zal M (zx x 0) n.toNatClampNeg n.toNatClampNeg))
  | .anewarray _ => zp1 st fun n r => zif (zsz n) (k ls (zr (some (mS M)) :: r) (zal M (zx x 0) n.toNatClampNeg n.toNatClampNeg))
  | .arraylength => zpr st fun o r => zdr o fun a => zif (Nat.ble 101 (mK M a)) (k ls (zi (Int32.ofNat (mN M a)) :: r) M)
  | .iaload => zp1 st fun j r => zpr r fun o r => zdr o fun a => zif (mK M a == 101) (zif (zix j (mN M a)) (k ls (zi (mI M a j.toNatClampNeg) :: r) M))
  | .baload => zp1 st fun j r => zpr r fun o r => zdr o fun a => zif (zkb (mK M a) [102, 104]) (zif (zix j (mN M a)) (k ls (zi (mI M a j.toNatClampNeg) :: r) M))
  | .caload => zp1 st fun j r => zpr r fun o r => zdr o fun a => zif (mK M a == 103) (zif (zix j (mN M a)) (k ls (zi (mI M a j.toNatClampNeg) :: r) M))
  | .aaload => zp1 st fun j r => zpr r fun o r => zdr o fun a => zif (Nat.ble 105 (mK M a)) (zif (zix j (mN M a)) (k ls (zr (mJ M a j.toNatClampNeg) :: r) M))
  | .iastore => zp2 st fun j w r => zpr r fun o r => zdr o fun a => zif (mK M a == 101) (zif (Nat.ble E.1 a) (zif (zix j (mN M a)) (k ls r (sI M a j.toNatClampNeg w))))
  | .bastore => zp2 st fun j w r => zpr r fun o r => zdr o fun a => zif (Nat.ble E.1 a) (zif (zix j (mN M a)) (match zx x 0 with
    | 0 => zif (mK M a == 102) (k ls r (sI M a j.toNatClampNeg w.toInt8.toInt32))
    | _ => zif (mK M a == 104) (k ls r (sI M a j.toNatClampNeg (w &&& 1)))))
  | .castore => zp2 st fun j w r => zpr r fun o r => zdr o fun a => zif (mK M a == 103) (zif (Nat.ble E.1 a) (zif (zix j (mN M a)) (k ls r (sI M a j.toNatClampNeg (w.toUInt32 % 65536).toInt32))))
  | .aastore => zpr st fun w r => zp1 r fun j r => zpr r fun o r => zdr o fun a => zdr w fun b => zif (mK M a == zx x 0) (zif (zkb (mK M b) x.tail) (zif (Nat.ble E.1 a) (zif (zix j (mN M a)) (k ls r (sJ M a j.toNatClampNeg (some b))))))
  | .checkcast _ => match x with
    | [κ] => zpr st fun o r => zdr o fun a => zif (mK M a == κ) (k ls (zr (some a) :: r) M)
    | [κ, _] => zpr st fun o r => zdr o fun a => zif (mK M a == κ && Nat.ble E.1 a) (k ls (zr (some a) :: r) M)
    | _ => none
  | .instanceof _ => zpr st fun o r => zdr o fun a => zif (zkb (mK M a) x) (cond (mK M a == zx x 0) (k ls (zi 1 :: r) M) (k ls (zi 0 :: r) M))
  | .invokevirtual _ => ztk (zx x 1) [] st fun as r => zpr r fun o r => zdr o fun a => zvc (mK M a) x.tail.tail fun y => zcall cf (zth bk hh pc ls) (k ls) (zx x 0) y (zr (some a) :: as) r M
  | .invokespecial _ => match x with
    | [] => zpr st fun o r => zdr o fun _ => zif (Nat.ble (zsm r) 8) (k ls r M)
    | [t, n, y] => ztk n [] st fun as r => zpr r fun o r => zdr o fun a => zcall cf (zth bk hh pc ls) (k ls) t y (zr (some a) :: as) r M
    | [t, n, y, κ] => ztk n [] st fun as r => zpr r fun o r => zdr o fun a => zif (mK M a == κ) (zcall cf (zth bk hh pc ls) (k ls) t y (zr (some a) :: as) r M)
    | _ => none
  | .invokestatic _ => match x with
    | [κ] => zp2 st fun dp n r => zpr r fun d r => zp1 r fun sp r => zpr r fun s r => zdr s fun a => zdr d fun b => zif (mK M a == κ && mK M b == κ) (zif (Nat.ble E.1 a && Nat.ble E.1 b) (zif (decide (0 ≤ sp) && decide (0 ≤ dp) && decide (0 ≤ n) && decide (sp.toNatClampNeg + n.toNatClampNeg ≤ mN M a) && decide (dp.toNatClampNeg + n.toNatClampNeg ≤ mN M b)) (zif (Nat.ble (zsm r) 8) (match Nat.ble κ 104 with
      | true => k ls r (zcI M a b sp.toNatClampNeg dp.toNatClampNeg n.toNatClampNeg)
      | false => zif (zck M a sp.toNatClampNeg n.toNatClampNeg) (k ls r (zcJ M a b sp.toNatClampNeg dp.toNatClampNeg n.toNatClampNeg))))))
    | [t, n, y] => ztk n [] st fun as r => zcall cf (zth bk hh pc ls) (k ls) t y as r M
    | _ => none
  | .athrow => zpr st fun o _ => zdr o fun q => zif (Nat.ble E.1 q && zkb (mK M q) [3, 9]) (zth bk hh pc ls q M)
  | .ireturn => match zx x 0 with
    | 1 => match st with
      | [Sum.inl a] => some (Sum.inl (some (zi a)), M)
      | _ => none
    | 0 => match st with
      | [Sum.inl a] => zif (a == 0 || a == 1) (some (Sum.inl (some (zi a)), M))
      | _ => none
    | 2 => match st with
      | [Sum.inl a] => zif ((a.toUInt32 % 65536).toInt32 == a) (some (Sum.inl (some (zi a)), M))
      | _ => none
    | _ => match st with
      | [Sum.inl a] => zif (a.toInt8.toInt32 == a) (some (Sum.inl (some (zi a)), M))
      | _ => none
  | .areturn => match st with
    | [Sum.inr (Sum.inl o)] => some (Sum.inl (some (zr o)), M)
    | _ => none
  | .lreturn => match st with
    | [Sum.inr (Sum.inr a)] => some (Sum.inl (some (zl a)), M)
    | _ => none
  | .return_ => match st with
    | [] => some (Sum.inl none, M)
    | _ => none
  | _ => none
/-- a method's code: place, length, instruction, its number, its links -/
abbrev zC : Type := List (Nat × Nat × Instr × Int32 × List Nat)
def zex (E : zE) (cf : Nat → List zV → zM → Option zR) (bk : Nat → zL → List zV → zM → Option zR) (hh : List Nat) : zC → zL → List zV → zM → Option zR
  | [], _, _, _ => none
  | (pc, _, i, v, x) :: r, ls, st, M => zst E cf bk hh (zex E cf bk hh r) pc i v x ls st M
def zsk (t : Nat) : zC → zC
  | [] => []
  | (pc, q) :: r => match pc == t with
    | true => (pc, q) :: r
    | false => zsk t r
/-- a method's entry: its code, its handlers, how many locals -/
abbrev zP : Type := Nat → zC × List Nat × Nat
def zini : List zV → Nat → zL
  | [], n => List.replicate n none
  | a :: l, n => some a :: zini l (n - 1)
def zX (E : zE) (P : zP) : Nat → Nat → Nat → Nat → zL → List zV → zM → Option zR
  | 0, _, _, _, _, _, _ => none
  | n + 1, d, y, pc, ls, st, M => zex E (fun y' as M' => match d with
    | 0 => none
    | d' + 1 => zX E P n d' y' 0 (zini as (P y').2.2) [] M') (fun t ls st M => zX E P n d y t ls st M) (P y).2.1 (zsk pc (P y).1) ls st M
/-- the calls at depth d, fuel n -/
def zcfX (E : zE) (P : zP) (n d : Nat) : Nat → List zV → zM → Option zR := fun y' as M' => match d with
  | 0 => none
  | d' + 1 => zX E P n d' y' 0 (zini as (P y').2.2) [] M'
theorem zX_eq (E : zE) (P : zP) (n d y pc : Nat) (ls : zL) (st : List zV) (M : zM) : zX E P (n + 1) d y pc ls st M = zex E (zcfX E P n d) (fun t ls st M => zX E P n d y t ls st M) (P y).2.1 (zsk pc (P y).1) ls st M := rfl
