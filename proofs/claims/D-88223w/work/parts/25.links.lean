/-! ===== what each element of a code list must have ===== -/
def zlg (lg : Bool) : List Nat := if lg then [1] else []
def ztg (t : FieldType) : Nat := match t with
  | .long => 3
  | .object _ => 2
  | .array _ => 2
  | _ => 1
def zpg (t : FieldType) : Nat := match t with
  | .boolean => 0
  | .int => 1
  | .object _ => 2
  | .array _ => 2
  | .long => 3
  | .byte => 4
  | _ => 9
/-- a field read of a receiver of kind κ -/
def zfg (own : String) (idx κ k tg : Nat) : Prop := ∃ (ci : Nat) (q : vw_C), κ = ci + 1 ∧ zcl[ci]? = some q ∧ k < q.2.2 ∧ ztg (zty ci k) = tg ∧ (Cond.fieldLink own idx (q.2.1 k).1 (q.2.1 k).2.1 (q.2.1 k).2.2.1 ∈ lw_all ∨ ∃ host : String, Cond.fieldLinkNest own idx (q.2.1 k).1 (q.2.1 k).2.1 (q.2.1 k).2.2.1 host ∈ zxw)
def zfp (own : String) (ini : Prop) (idx κ k tg : Nat) : Prop := ∃ (ci : Nat) (q : vw_C), κ = ci + 1 ∧ zcl[ci]? = some q ∧ k < q.2.2 ∧ zpg (zty ci k) = tg ∧ ((Cond.fieldLink own idx (q.2.1 k).1 (q.2.1 k).2.1 (q.2.1 k).2.2.1 ∈ lw_all ∧ ((q.2.1 k).2.2.2 = true → ini ∧ (q.2.1 k).1 = own)) ∨ ((q.2.1 k).2.2.2 = false ∧ ∃ host : String, Cond.fieldLinkNest own idx (q.2.1 k).1 (q.2.1 k).2.1 (q.2.1 k).2.2.1 host ∈ zxw))
def zpt (pc : Nat) : Int → List Int → List Nat → Prop
  | _, [], [] => True
  | lo, o :: os, c :: t :: ps => lo = (c : Int) ∧ c < 2147483648 ∧ (pc : Int) + o = (t : Int) ∧ zpt pc (lo + 1) os ps
  | _, _, _ => False
def zpl_ (pc : Nat) : List (Int × Int) → List Nat → Prop
  | [], [] => True
  | o :: os, c :: t :: ps => o.1 = (c : Int) ∧ c < 2147483648 ∧ (pc : Int) + o.2 = (t : Int) ∧ zpl_ pc os ps
  | _, _ => False
def zvps (zml : List zY) (own : String) (idx n : Nat) : List Nat → Prop
  | [] => True
  | κ :: y :: l => (∃ (ci : Nat) (q : vw_C) (r : zY), κ = ci + 1 ∧ zcl[ci]? = some q ∧ zml[y]? = some r ∧ zlv own idx q.1 r n ∧ n + 1 ≤ yL r) ∧ zvps zml own idx n l
  | _ => False
def zlk (zml : List zY) (own : String) (nL : Nat) (lg : Bool) (rt : Option FieldType) (ini : Prop) (pc len nxt : Nat) (i : Instr) (v : Int32) (x : List Nat) : Prop := match i with
  | .aload_n n => len = 1 ∧ nxt = pc + 1 ∧ x = [(n : Nat)]
  | .iload_n n => len = 1 ∧ nxt = pc + 1 ∧ x = [(n : Nat)]
  | .lload_n n => len = 1 ∧ nxt = pc + 1 ∧ x = [(n : Nat)]
  | .aload n => len = 2 ∧ nxt = pc + 2 ∧ x = [n]
  | .iload n => len = 2 ∧ nxt = pc + 2 ∧ x = [n]
  | .istore_n n => len = 1 ∧ nxt = pc + 1 ∧ (n : Nat) < nL ∧ x = (n : Nat) :: zlg lg
  | .astore_n n => len = 1 ∧ nxt = pc + 1 ∧ (n : Nat) < nL ∧ x = (n : Nat) :: zlg lg
  | .lstore_n n => len = 1 ∧ nxt = pc + 1 ∧ (n : Nat) + 1 < nL ∧ lg = true ∧ x = (n : Nat) :: zlg lg
  | .istore n => len = 2 ∧ nxt = pc + 2 ∧ n < nL ∧ x = n :: zlg lg
  | .astore n => len = 2 ∧ nxt = pc + 2 ∧ n < nL ∧ x = n :: zlg lg
  | .iinc n k => len = 3 ∧ nxt = pc + 3 ∧ n < nL ∧ Int32.ofInt k = v ∧ x = n :: zlg lg
  | .iconst k => len = 1 ∧ nxt = pc + 1 ∧ Int32.ofInt k = v
  | .bipush k => len = 2 ∧ nxt = pc + 2 ∧ (Int8.ofInt k).toInt32 = v
  | .sipush k => len = 3 ∧ nxt = pc + 3 ∧ (Int16.ofInt k).toInt32 = v
  | .lconst n => len = 1 ∧ nxt = pc + 1 ∧ x = [(n : Nat)]
  | .ldc idx => len = 2 ∧ nxt = pc + 2 ∧ ((x = [] ∧ Cond.constant own idx v ∈ lw_all) ∨ ∃ (tx : String) (n : Nat), x = [n] ∧ (own, idx, tx, n) ∈ zsl)
  | .ldc_w idx => len = 3 ∧ nxt = pc + 3 ∧ ∃ (tx : String) (n : Nat), x = [n] ∧ (own, idx, tx, n) ∈ zsl
  | .ldc2_w idx => len = 3 ∧ nxt = pc + 3 ∧ ∃ n : Nat, x = [n] ∧ Cond.constantLong own idx (Int64.ofNat n) ∈ lw_all
  | .goto off => len = 3 ∧ ∃ t : Nat, x = [t] ∧ (pc : Int) + off = (t : Int)
  | .if_icmp _ off => len = 3 ∧ nxt = pc + 3 ∧ ∃ t : Nat, x = [t] ∧ (pc : Int) + off = (t : Int)
  | .ifCond _ off => len = 3 ∧ nxt = pc + 3 ∧ ∃ t : Nat, x = [t] ∧ (pc : Int) + off = (t : Int)
  | .if_acmp _ off => len = 3 ∧ nxt = pc + 3 ∧ ∃ t : Nat, x = [t] ∧ (pc : Int) + off = (t : Int)
  | .ifnull off => len = 3 ∧ nxt = pc + 3 ∧ ∃ t : Nat, x = [t] ∧ (pc : Int) + off = (t : Int)
  | .ifnonnull off => len = 3 ∧ nxt = pc + 3 ∧ ∃ t : Nat, x = [t] ∧ (pc : Int) + off = (t : Int)
  | .tableswitch d lo hi offs => ∃ (t : Nat) (ps : List Nat), x = t :: ps ∧ (pc : Int) + d = (t : Int) ∧ 0 ≤ lo ∧ hi + 1 = lo + (offs.toList.length : Int) ∧ zpt pc lo offs.toList ps
  | .lookupswitch d ps => (ps.toList.zip (ps.toList.drop 1)).all (fun (a, next) => a.1 < next.1) = true ∧ ∃ (t : Nat) (l : List Nat), x = t :: l ∧ (pc : Int) + d = (t : Int) ∧ zpl_ pc ps.toList l
  | .getfield idx => len = 3 ∧ nxt = pc + 3 ∧ ∃ (tg k : Nat) (ks : List Nat), x = tg :: k :: ks ∧ ∀ κ ∈ ks, zfg own idx κ k tg
  | .putfield idx => len = 3 ∧ nxt = pc + 3 ∧ ∃ (tg k : Nat) (ks : List Nat), x = tg :: k :: ks ∧ ∀ κ ∈ ks, zfp own ini idx κ k tg
  | .getstatic idx => len = 3 ∧ nxt = pc + 3 ∧ ((x = [] ∧ ∃ C n d : String, (C, n, d, v) ∈ zsi ∧ Cond.fieldLink own idx C n d ∈ lw_all) ∨ ∃ (C n d : String) (k : Nat), x = [k] ∧ (C, n, d, k) ∈ zsr ∧ Cond.fieldLink own idx C n d ∈ lw_all)
  | .new idx => x = [] ∨ (len = 3 ∧ nxt = pc + 3 ∧ ∃ (ci : Nat) (q : vw_C), x = [ci + 1, q.2.2] ∧ zcl[ci]? = some q ∧ Cond.classLink own idx q.1 ∈ lw_all ∧ Cond.instantiable q.1 q.2.2 ∈ lw_all ∧ Cond.initialized q.1 ∈ lw_all)
  | .newarray t => len = 2 ∧ nxt = pc + 2 ∧ ∃ j : Nat, x = [101 + j] ∧ j < 4 ∧ zat[j]? = some (newarray.typeOf t) ∧ Cond.arrayClass (newarray.typeOf t) ∈ lw_all
  | .anewarray idx => len = 3 ∧ nxt = pc + 3 ∧ ∃ (j : Nat) (C : String), x = [101 + j] ∧ zat[j]? = some (.object C) ∧ Cond.classLink own idx C ∈ lw_all ∧ C ∈ zao
  | .aastore => len = 1 ∧ nxt = pc + 1 ∧ ∃ (j : Nat) (t : FieldType) (ks : List Nat), x = (101 + j) :: ks ∧ 4 ≤ j ∧ zat[j]? = some t ∧ ∀ κ ∈ ks, ∃ (ci : Nat) (q : vw_C), κ = ci + 1 ∧ zcl[ci]? = some q ∧ (t = .object q.1 ∨ ∃ C : String, t = .object C ∧ Cond.castable q.1 C ∈ zxw)
  | .checkcast idx => x = [] ∨ (len = 3 ∧ nxt = pc + 3 ∧ ((∃ (ci : Nat) (q : vw_C), x = [ci + 1] ∧ zcl[ci]? = some q ∧ Cond.classLink own idx q.1 ∈ lw_all) ∨ (x = [102, 0] ∧ Cond.classLink own idx "[B" ∈ lw_all)))
  | .instanceof idx => x = [] ∨ (len = 3 ∧ nxt = pc + 3 ∧ ∃ (ci : Nat) (q : vw_C) (ks : List Nat), x = (ci + 1) :: ks ∧ zcl[ci]? = some q ∧ Cond.classLink own idx q.1 ∈ lw_all ∧ ∀ κ ∈ ks, ∃ (c2 : Nat) (q2 : vw_C), κ = c2 + 1 ∧ zcl[c2]? = some q2 ∧ (q2.1, q.1) ∈ znc)
  | .invokevirtual idx => x = [] ∨ (len = 3 ∧ nxt = pc + 3 ∧ ∃ (t n : Nat) (ps : List Nat), x = t :: n :: ps ∧ zvps zml own idx n ps)
  | .invokespecial idx => x = [0] ∨ (len = 3 ∧ nxt = pc + 3 ∧ ((x = [] ∧ Cond.methodLink own idx Lib.objectInit ∈ lw_all) ∨ (∃ (t n y : Nat) (r : zY), x = [t, n, y] ∧ zml[y]? = some r ∧ zlc own idx r n ∧ n + 1 ≤ yL r) ∨ ∃ (t n y ci : Nat) (q : vw_C) (r : zY), x = [t, n, y, ci + 1] ∧ zcl[ci]? = some q ∧ zml[y]? = some r ∧ zlu own idx r n ∧ n + 1 ≤ yL r))
  | .invokestatic idx => x = [] ∨ (len = 3 ∧ nxt = pc + 3 ∧ ((x = [101] ∧ Cond.methodLink own idx arraycopyName ∈ lw_all) ∨ (x = [110] ∧ Cond.methodLink own idx arraycopyName ∈ lw_all) ∨ ∃ (t n y : Nat) (r : zY), x = [t, n, y] ∧ zml[y]? = some r ∧ zls own idx r n ∧ n ≤ yL r))
  | .athrow => len = 1
  | .ireturn => len = 1 ∧ ((x = [1] ∧ rt = some .int) ∨ (x = [0] ∧ rt = some .boolean) ∨ (x = [2] ∧ rt = some .char) ∨ (x = [3] ∧ rt = some .byte))
  | .areturn => len = 1 ∧ ∃ t : FieldType, rt = some t ∧ ((∃ n, t = .object n) ∨ ∃ t', t = .array t')
  | .lreturn => len = 1 ∧ rt = some .long
  | .return_ => len = 1 ∧ rt = none
  | _ => len = 1 ∧ nxt = pc + 1
def znx : zC → Nat
  | [] => 0
  | (pc, _) :: _ => pc
def zoks (zml : List zY) (own : String) (cc : ByteArray) (nL : Nat) (lg : Bool) (rt : Option FieldType) (ini : Prop) : zC → Prop
  | [] => True
  | (pc, len, i, v, x) :: r => decode cc pc = .ok (i, len) ∧ zlk zml own nL lg rt ini pc len (znx r) i v x ∧ zoks zml own cc nL lg rt ini r
/-- what a method's record must have -/
def zmok (zml : List zY) (r : zY) : Prop := plainFor (yN r) = true ∧ yL r ≤ 13 ∧ zcw r ∧ zoks zml (yN r).cls (yB r) (yL r) (yG r) (yR r) ((yN r).name = "<init>") (yC r) ∧
  ((yT r = [] ∧ yH r = []) ∨ ∃ (a e t ct ci : Nat) (q : vw_C), yT r = [(a, e, t, ct)] ∧ yH r = [a, e, t, ci + 1] ∧ zcl[ci]? = some q ∧ ct ≠ 0 ∧ Cond.classLink (yN r).cls ct q.1 ∈ lw_all ∧ Cond.castable q.1 q.1 ∈ zxw ∧ plainName (yN r).cls = true)
