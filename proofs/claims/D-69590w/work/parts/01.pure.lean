/-! THE PURE MACHINE: bytecode over typed addresses and one store. A value is (tag, number): tag 0 an int, 1 a long, 9 none, 8 thrown, from 10 on a reference of that kind (number 0: null). An address is tag + 512 * number; places -tag and 0 of the store hold counters of what was made. -/
abbrev AV : Type := Int × Int
abbrev Sto : Type := Int → Int → Int
abbrev Ins : Type := Jvm.ClassFile.Instr × List Int
abbrev ZS : Type := List AV × List AV × Sto
abbrev ZR : Type := Option (Option Int × ZS)
def w8 (x : Int) : Int := Int.bmod x 256
def w16 (x : Int) : Int := Int.bmod x 65536
def w32 (x : Int) : Int := Int.bmod x 4294967296
def w64 (x : Int) : Int := Int.bmod x 18446744073709551616
def up (f : Sto) (a i v : Int) : Sto := fun b j => if b = a ∧ j = i then v else f b j
def zz (f : Sto) (a : Int) : Sto := fun b j => if b = a then 0 else f b j
/-- the length of an array whose length is in its address: address = t + 512 * (c + 64 * n), c below 64 -/
def zLEN (a : Int) : Int := a / 32768
def zlen (n a : Int) : Int := if n = -1 then zLEN a else n
def zcpy (f : Sto) (s sp d dp n : Int) : Sto := fun b j => if b = d ∧ dp ≤ j ∧ j < dp + n then f s (sp + (j - dp)) else f b j
def zidiv (a b : Int) : Int := w32 (Int.tdiv a b)
def zirem (a b : Int) : Int := Int.tmod a b
def zldiv (a b : Int) : Int := w64 (Int.tdiv a b)
def zlrem (a b : Int) : Int := Int.tmod a b
def zand (a b : Int) : Int := (Int32.ofInt a &&& Int32.ofInt b).toInt
def zishl (a b : Int) : Int := (Int32.ofInt a <<< (Int32.ofInt b &&& 31)).toInt
def zishr (a b : Int) : Int := (Int32.ofInt a >>> (Int32.ofInt b &&& 31)).toInt
def ziushr (a b : Int) : Int := ((Int32.ofInt a).toUInt32 >>> ((Int32.ofInt b).toUInt32 &&& Int32.toUInt32 31)).toInt32.toInt
def zland (a b : Int) : Int := (Int64.ofInt a &&& Int64.ofInt b).toInt
def zlor (a b : Int) : Int := (Int64.ofInt a ||| Int64.ofInt b).toInt
def zlxor (a b : Int) : Int := (Int64.ofInt a ^^^ Int64.ofInt b).toInt
def zlshl (a b : Int) : Int := (Int64.ofInt a <<< ((Int32.ofInt b).toInt64 &&& 63)).toInt
def zlshr (a b : Int) : Int := (Int64.ofInt a >>> ((Int32.ofInt b).toInt64 &&& 63)).toInt
def zlushr (a b : Int) : Int := ((Int64.ofInt a).toUInt64 >>> ((Int32.ofInt b).toInt64.toUInt64 &&& Int64.toUInt64 63)).toInt64.toInt
def zlcmp (a b : Int) : Int := if b < a then 1 else if a = b then 0 else -1
/-- locals -/
def zget (ls : List AV) (i : Int) : AV := ls.getD i.toNat (9, 0)
def zset (ls : List AV) (i : Int) (v : AV) : List AV := ls.set i.toNat v
/-- a store of one word kills a long that begins one place before -/
def zkill (ls : List AV) (i : Int) : List AV := if 0 < i ∧ (zget ls (i - 1)).1 = 1 then zset ls (i - 1) (9, 0) else ls
def zst1 (ls : List AV) (i : Int) (v : AV) : List AV := zset (zkill ls i) i v
def zst2 (ls : List AV) (i : Int) (v : AV) : List AV := zset (zset (zkill ls i) i v) (i + 1) (9, 0)
def zloc0 : List AV → List AV
  | [] => []
  | (t, x) :: r => if t = 1 then (t, x) :: (9, 0) :: zloc0 r else (t, x) :: zloc0 r
def zloc (ml : Nat) (as : List AV) : List AV := zloc0 as ++ List.replicate (ml - (zloc0 as).length) (9, 0)
/-- one instruction's shapes -/
def zpush (v : AV) (ls st : List AV) (S : Sto) : ZR := some (none, ls, v :: st, S)
def zun (t u : Int) (f : Int → Int) (ls st : List AV) (S : Sto) : ZR := match st with
  | (t1, a) :: r => if t1 = t then some (none, ls, (u, f a) :: r, S) else none
  | _ => none
def zbin (t1 t2 u : Int) (c : Int → Bool) (f : Int → Int → Int) (ls st : List AV) (S : Sto) : ZR := match st with
  | (tb, b) :: (ta, a) :: r => if ta = t1 ∧ tb = t2 ∧ c b = true then some (none, ls, (u, f a b) :: r, S) else none
  | _ => none
def zload (c : Int → Bool) (i : Int) (ls st : List AV) (S : Sto) : ZR := if c (zget ls i).1 = true then some (none, ls, zget ls i :: st, S) else none
def zstore (c : Int → Bool) (f : List AV → Int → AV → List AV) (i : Int) (ls st : List AV) (S : Sto) : ZR := match st with
  | v :: r => if c v.1 = true then some (none, f ls i v, r, S) else none
  | _ => none
def zj1 (c : Int → Bool) (t : Int) (ls st : List AV) (S : Sto) : ZR := match st with
  | (t1, a) :: r => if t1 = 0 then some (if c a = true then some t else none, ls, r, S) else none
  | _ => none
def zj2 (c : Int → Int → Bool) (t : Int) (ls st : List AV) (S : Sto) : ZR := match st with
  | (tb, b) :: (ta, a) :: r => if ta = 0 ∧ tb = 0 then some (if c a b = true then some t else none, ls, r, S) else none
  | _ => none
def zja1 (c : Int → Bool) (t : Int) (ls st : List AV) (S : Sto) : ZR := match st with
  | (t1, a) :: r => if 10 ≤ t1 then some (if c a = true then some t else none, ls, r, S) else none
  | _ => none
def zja2 (c : Int → Int → Bool) (t : Int) (ls st : List AV) (S : Sto) : ZR := match st with
  | (tb, b) :: (ta, a) :: r => if 10 ≤ ta ∧ ta = tb then some (if c a b = true then some t else none, ls, r, S) else none
  | _ => none
/-- a field of the store -/
def zgetf (ct k t : Int) (ls st : List AV) (S : Sto) : ZR := match st with
  | (tc, a) :: r => if tc = ct ∧ a % 512 = ct then some (none, ls, (t, S a k) :: r, S) else none
  | _ => none
/-- a field that never changes behind the constructors: its value lies so far from the object's address -/
def zgetc (ct t off : Int) (ls st : List AV) (S : Sto) : ZR := match st with
  | (tc, a) :: r => if tc = ct ∧ a % 512 = ct then some (none, ls, (t, a + off) :: r, S) else none
  | _ => none
def zputf (ct k t bo : Int) (ls st : List AV) (S : Sto) : ZR := match st with
  | (tv, v) :: (tc, a) :: r => if tv = t ∧ tc = ct ∧ a % 512 = ct ∧ (bo = 1 → v = 0 ∨ v = 1) then some (none, ls, r, up S a k v) else none
  | _ => none
def zald (t n et : Int) (ls st : List AV) (S : Sto) : ZR := match st with
  | (ti, i) :: (ta, a) :: r => if ti = 0 ∧ ta = t ∧ a % 512 = t ∧ 0 ≤ i ∧ i < zlen n a then some (none, ls, (et, S a i) :: r, S) else none
  | _ => none
def zast (c : Int → Bool) (f : Int → Int) (t n et : Int) (ls st : List AV) (S : Sto) : ZR := match st with
  | (tv, v) :: (ti, i) :: (ta, a) :: r => if tv = et ∧ ti = 0 ∧ ta = t ∧ a % 512 = t ∧ 0 ≤ i ∧ i < zlen n a ∧ c v = true then some (none, ls, r, up S a i (f v)) else none
  | _ => none
def zcnt (S : Sto) (t nf : Int) : Sto := up (up (up S (-t) 0 (S (-t) 0 + 1)) 0 0 (S 0 0 + 1)) 0 1 (S 0 1 + nf)
def znew (ct nf : Int) (ls st : List AV) (S : Sto) : ZR :=
  if 0 ≤ S (-ct) 0 then some (none, ls, (ct, ct + 512 * S (-ct) 0) :: st, zcnt (zz S (ct + 512 * S (-ct) 0)) ct nf) else none
def zadr (t n0 n c : Int) : Int := if n0 = -1 then t + 512 * (c + 64 * n) else t + 512 * c
def znewa (t n0 : Int) (ls st : List AV) (S : Sto) : ZR := match st with
  | (ti, n) :: r => if ti = 0 ∧ 0 ≤ n ∧ n < 1000000 ∧ (n0 = -1 → S (-t) 0 < 64) ∧ (n0 ≠ -1 → n = n0) ∧ 0 ≤ S (-t) 0 then some (none, ls, (t, zadr t n0 n (S (-t) 0)) :: r, zcnt (zz S (zadr t n0 n (S (-t) 0))) t n) else none
  | _ => none
def zalen (t n : Int) (ls st : List AV) (S : Sto) : ZR := match st with
  | (ta, a) :: r => if ta = t ∧ a % 512 = t then some (none, ls, (0, zlen n a) :: r, S) else none
  | _ => none
def zobj (ls st : List AV) (S : Sto) : ZR := match st with
  | (t, a) :: r => if 10 ≤ t ∧ a ≠ 0 ∧ r.length ≤ 4 then some (none, ls, r, S) else none
  | _ => none
def zord (ct : Int) (ls st : List AV) (S : Sto) : ZR := match st with
  | (t, a) :: r => if t = ct ∧ a % 512 = ct ∧ r.length ≤ 4 then some (none, ls, (0, a / 512) :: r, S) else none
  | _ => none
def zacpy (t1 n1 t2 n2 : Int) (ls st : List AV) (S : Sto) : ZR := match st with
  | (tn, n) :: (tdp, dp) :: (td, d) :: (tsp, sp) :: (ts, s) :: r =>
    if tn = 0 ∧ tdp = 0 ∧ tsp = 0 ∧ ts = t1 ∧ td = t2 ∧ s % 512 = t1 ∧ d % 512 = t2 ∧ 0 ≤ n ∧ 0 ≤ sp ∧ 0 ≤ dp ∧ sp + n ≤ zlen n1 s ∧ dp + n ≤ zlen n2 d ∧ r.length ≤ 4 then some (none, ls, r, zcpy S s sp d dp n) else none
  | _ => none
def zdup (ls st : List AV) (S : Sto) : ZR := match st with
  | (t, a) :: r => if t = 1 ∨ t = 9 then none else some (none, ls, (t, a) :: (t, a) :: r, S)
  | _ => none
def zdup2 (ls st : List AV) (S : Sto) : ZR := match st with
  | (t, a) :: (u, b) :: r => if t = 1 ∨ t = 9 ∨ u = 1 ∨ u = 9 then none else some (none, ls, (t, a) :: (u, b) :: (t, a) :: (u, b) :: r, S)
  | _ => none
/-- a switch's target: the table's or the pairs' -/
def ztab (d lo hi : Int) (ts : List Int) (x : Int) : Int := if x < lo ∨ hi < x then d else ts.getD (x - lo).toNat d
def zlook (d : Int) : List Int → Int → Int
  | k :: t :: r, x => if x = k then t else zlook d r x
  | _, _ => d
def zsw (f : Int → Int) (ls st : List AV) (S : Sto) : ZR := match st with
  | (t, x) :: r => if t = 0 then some (some (f x), ls, r, S) else none
  | _ => none
def zT (_ : Int) : Bool := true
def zne0 (b : Int) : Bool := decide (b ≠ 0)
def zis (t : Int) (u : Int) : Bool := decide (u = t)
def zref (u : Int) : Bool := decide (10 ≤ u)
def z01 (v : Int) : Bool := decide (v = 0 ∨ v = 1)
def zstep (i : Ins) (ls st : List AV) (S : Sto) : ZR := match i.1, i.2 with
  | .iconst _, [v] => zpush (0, v) ls st S
  | .bipush _, [v] => zpush (0, v) ls st S
  | .sipush _, [v] => zpush (0, v) ls st S
  | .ldc _, [v] => zpush (0, v) ls st S
  | .lconst _, [v] => zpush (1, v) ls st S
  | .ldc2_w _, [v] => zpush (1, v) ls st S
  | .aconst_null, [t] => if 10 ≤ t then zpush (t, 0) ls st S else none
  | .iload _, [i] => zload (zis 0) i ls st S
  | .iload_n _, [i] => zload (zis 0) i ls st S
  | .lload _, [i] => zload (zis 1) i ls st S
  | .lload_n _, [i] => zload (zis 1) i ls st S
  | .aload _, [i] => zload (zref) i ls st S
  | .aload_n _, [i] => zload (zref) i ls st S
  | .istore _, [i] => zstore (zis 0) zst1 i ls st S
  | .istore_n _, [i] => zstore (zis 0) zst1 i ls st S
  | .astore _, [i] => zstore (zref) zst1 i ls st S
  | .astore_n _, [i] => zstore (zref) zst1 i ls st S
  | .lstore _, [i] => zstore (zis 1) zst2 i ls st S
  | .lstore_n _, [i] => zstore (zis 1) zst2 i ls st S
  | .iinc _ _, [i, c] => if (zget ls i).1 = 0 then some (none, zst1 ls i (0, w32 ((zget ls i).2 + c)), st, S) else none
  | .iadd, [] => zbin 0 0 0 zT (fun a b => w32 (a + b)) ls st S
  | .isub, [] => zbin 0 0 0 zT (fun a b => w32 (a - b)) ls st S
  | .imul, [] => zbin 0 0 0 zT (fun a b => w32 (a * b)) ls st S
  | .idiv, [] => zbin 0 0 0 zne0 zidiv ls st S
  | .irem, [] => zbin 0 0 0 zne0 zirem ls st S
  | .iand, [] => zbin 0 0 0 zT zand ls st S
  | .ishl, [] => zbin 0 0 0 zT zishl ls st S
  | .ishr, [] => zbin 0 0 0 zT zishr ls st S
  | .iushr, [] => zbin 0 0 0 zT ziushr ls st S
  | .ladd, [] => zbin 1 1 1 zT (fun a b => w64 (a + b)) ls st S
  | .lsub, [] => zbin 1 1 1 zT (fun a b => w64 (a - b)) ls st S
  | .lmul, [] => zbin 1 1 1 zT (fun a b => w64 (a * b)) ls st S
  | .ldiv, [] => zbin 1 1 1 zne0 zldiv ls st S
  | .lrem, [] => zbin 1 1 1 zne0 zlrem ls st S
  | .land, [] => zbin 1 1 1 zT zland ls st S
  | .lor, [] => zbin 1 1 1 zT zlor ls st S
  | .lxor, [] => zbin 1 1 1 zT zlxor ls st S
  | .lshl, [] => zbin 1 0 1 zT zlshl ls st S
  | .lshr, [] => zbin 1 0 1 zT zlshr ls st S
  | .lushr, [] => zbin 1 0 1 zT zlushr ls st S
  | .lcmp, [] => zbin 1 1 0 zT zlcmp ls st S
  | .ineg, [] => zun 0 0 (fun a => w32 (-a)) ls st S
  | .i2l, [] => zun 0 1 (fun a => a) ls st S
  | .l2i, [] => zun 1 0 w32 ls st S
  | .i2b, [] => zun 0 0 w8 ls st S
  | .i2s, [] => zun 0 0 w16 ls st S
  | .dup, [] => zdup ls st S
  | .dup2, [] => zdup2 ls st S
  | .goto _, [t] => some (some t, ls, st, S)
  | .nop, [t] => some (some t, ls, st, S)
  | .nop, [c, n] => some (none, ls, st, up (up S 0 0 (S 0 0 + c)) 0 1 (S 0 1 + n))
  | .ifCond .eq _, [t] => zj1 (fun a => decide (a = 0)) t ls st S
  | .ifCond .ne _, [t] => zj1 (fun a => decide (a ≠ 0)) t ls st S
  | .ifCond .lt _, [t] => zj1 (fun a => decide (a < 0)) t ls st S
  | .ifCond .ge _, [t] => zj1 (fun a => decide (0 ≤ a)) t ls st S
  | .ifCond .gt _, [t] => zj1 (fun a => decide (0 < a)) t ls st S
  | .ifCond .le _, [t] => zj1 (fun a => decide (a ≤ 0)) t ls st S
  | .if_icmp .eq _, [t] => zj2 (fun a b => decide (a = b)) t ls st S
  | .if_icmp .ne _, [t] => zj2 (fun a b => decide (a ≠ b)) t ls st S
  | .if_icmp .lt _, [t] => zj2 (fun a b => decide (a < b)) t ls st S
  | .if_icmp .ge _, [t] => zj2 (fun a b => decide (b ≤ a)) t ls st S
  | .if_icmp .gt _, [t] => zj2 (fun a b => decide (b < a)) t ls st S
  | .if_icmp .le _, [t] => zj2 (fun a b => decide (a ≤ b)) t ls st S
  | .ifnull _, [t] => zja1 (fun a => decide (a = 0)) t ls st S
  | .ifnonnull _, [t] => zja1 (fun a => decide (a ≠ 0)) t ls st S
  | .if_acmp .eq _, [t] => zja2 (fun a b => decide (a = b)) t ls st S
  | .if_acmp .ne _, [t] => zja2 (fun a b => decide (a ≠ b)) t ls st S
  | .tableswitch _ _ _ _, d :: lo :: hi :: ts => zsw (ztab d lo hi ts) ls st S
  | .lookupswitch _ _, d :: ps => zsw (zlook d ps) ls st S
  | .getfield _, [ct, k, t] => zgetf ct k t ls st S
  | .getfield _, [ct, _, t, off] => zgetc ct t off ls st S
  | .putfield _, [ct, k, t, bo] => zputf ct k t bo ls st S
  | .getstatic _, [t, a] => zpush (t, a) ls st S
  | .iaload, [t, n] => zald t n 0 ls st S
  | .baload, [t, n, _] => zald t n 0 ls st S
  | .saload, [t, n] => zald t n 0 ls st S
  | .laload, [t, n] => zald t n 1 ls st S
  | .aaload, [t, n, et] => zald t n et ls st S
  | .iastore, [t, n] => zast zT (fun v => v) t n 0 ls st S
  | .bastore, [t, n, 0] => zast zT w8 t n 0 ls st S
  | .bastore, [t, n, 1] => zast z01 (fun v => v) t n 0 ls st S
  | .sastore, [t, n] => zast zT w16 t n 0 ls st S
  | .lastore, [t, n] => zast zT (fun v => v) t n 1 ls st S
  | .aastore, [t, n, et] => zast zne0 (fun v => v) t n et ls st S
  | .new _, [ct, nf] => znew ct nf ls st S
  | .newarray _, [t, n0] => znewa t n0 ls st S
  | .anewarray _, [t, n0] => znewa t n0 ls st S
  | .arraylength, [t, n] => zalen t n ls st S
  | .invokespecial _, [] => zobj ls st S
  | .invokevirtual _, [ct] => zord ct ls st S
  | .invokestatic _, [t1, n1, t2, n2] => zacpy t1 n1 t2 n2 ls st S
  | _, _ => none
/-- a call: the callee, how many arguments, its locals, the receiver's tag, where to go on if it throws -/
def zcall (i : Ins) : Option (Nat × Nat × Nat × Option Int × Option Int) := match i.1, i.2 with
  | .invokevirtual _, [c, n, ml, t] => some (c.toNat, n.toNat, ml.toNat, some t, none)
  | .invokevirtual _, [c, n, ml, t, h] => some (c.toNat, n.toNat, ml.toNat, some t, some h)
  | .invokespecial _, [c, n, ml, t] => some (c.toNat, n.toNat, ml.toNat, some t, none)
  | .invokestatic _, [c, n, ml] => some (c.toNat, n.toNat, ml.toNat, none, none)
  | _, _ => none
def zret (i : Ins) (st : List AV) : Option AV := match i.1, i.2, st with
  | .return_, [], [] => some (9, 0)
  | .ireturn, [bo], [(t, v)] => if t = 0 ∧ (bo = 1 → v = 0 ∨ v = 1) then some (0, v) else none
  | .lreturn, [], [(t, v)] => if t = 1 then some (1, v) else none
  | .areturn, [u], [(t, v)] => if t = u ∧ 10 ≤ t then some (t, v) else none
  | .athrow, [], [] => some (8, 0)
  | _, _, _ => none
def zpsh (r : AV) (st : List AV) : List AV := if r.1 = 9 then st else r :: st
def zrcv (rc : Option Int) (as : List AV) : Bool := match rc, as with
  | none, _ => true
  | some t, (u, a) :: _ => decide (u = t ∧ a % 512 = t)
  | some _, [] => false
/-- words of arguments -/
def zw : List AV → Nat
  | [] => 0
  | v :: r => (if v.1 = 1 then 2 else 1) + zw r
abbrev ZC : Type := Nat → Int → List Ins
def zex (C : ZC) : Nat → Nat → List Ins → List AV → List AV → Sto → Option (Sto × AV)
  | 0, _, _, _, _, _ => none
  | _ + 1, _, [], _, _, _ => none
  | n + 1, k, i :: is, ls, st, S => match zcall i with
    | some (c, na, ml, rc, hl) => if na ≤ st.length ∧ zw (st.drop na) ≤ 8 ∧ zrcv rc (st.take na).reverse = true ∧ zw (st.take na).reverse ≤ ml then
        (match zex C n c (C c 0) (zloc ml (st.take na).reverse) [] S with
        | none => none
        | some (S', r) => if r.1 = 8 then (match hl with
            | none => none
            | some h => zex C n k (C k h) ls [] S') else zex C n k is ls (zpsh r (st.drop na)) S') else none
    | none => match zret i st with
      | some r => some (S, r)
      | none => match zstep i ls st S with
        | none => none
        | some (none, ls', st', S') => zex C n k is ls' st' S'
        | some (some t, ls', st', S') => zex C n k (C k t) ls' st' S'
abbrev ZQ : Type := Sto → AV → Prop
def zG (C : ZC) (k : Nat) (is : List Ins) (ls st : List AV) (S : Sto) (Q : ZQ) : Prop := ∃ n S' r, zex C n k is ls st S = some (S', r) ∧ Q S' r
def zCall (C : ZC) (k ml : Nat) (as : List AV) (S : Sto) (Q : ZQ) : Prop := zG C k (C k 0) (zloc ml as) [] S Q
/-- behind a call without a handler -/
def zK (C : ZC) (k : Nat) (is : List Ins) (ls st : List AV) (Q : ZQ) : ZQ := fun S r => r.1 ≠ 8 ∧ zG C k is ls (zpsh r st) S Q
/-- behind a call with a handler -/
def zKh (C : ZC) (k : Nat) (is : List Ins) (ls st : List AV) (h : Int) (Q : ZQ) : ZQ := fun S r => if r.1 = 8 then zG C k (C k h) ls [] S Q else zG C k is ls (zpsh r st) S Q
theorem zex_mono {C : ZC} : ∀ (n k : Nat) (is : List Ins) (ls st : List AV) (S : Sto) (x : Sto × AV), zex C n k is ls st S = some x → zex C (n + 1) k is ls st S = some x := by
  intro n
  induction n with
  | zero => intro k is ls st S x h; simp [zex] at h
  | succ n ih =>
    intro k is ls st S x h
    cases is with
    | nil => simp [zex] at h
    | cons i is =>
      rw [zex] at h ⊢
      cases hc : zcall i with
      | some q =>
        obtain ⟨c, na, ml, rc, hl⟩ := q
        rw [hc] at h
        simp only at h ⊢
        by_cases hcond : na ≤ st.length ∧ zw (st.drop na) ≤ 8 ∧ zrcv rc (st.take na).reverse = true ∧ zw (st.take na).reverse ≤ ml
        · rw [if_pos hcond] at h ⊢
          cases h1 : zex C n c (C c 0) (zloc ml (st.take na).reverse) [] S with
          | none => rw [h1] at h; simp at h
          | some y =>
            obtain ⟨S1, r1⟩ := y
            rw [h1] at h
            simp only at h
            rw [ih _ _ _ _ _ _ h1]
            simp only
            by_cases h8 : r1.1 = 8
            · rw [if_pos h8] at h ⊢
              cases hl with
              | none => simp at h
              | some t => simp only at h ⊢; exact ih _ _ _ _ _ _ h
            · rw [if_neg h8] at h ⊢
              exact ih _ _ _ _ _ _ h
        · rw [if_neg hcond] at h; simp at h
      | none =>
        rw [hc] at h
        simp only at h ⊢
        cases hr : zret i st with
        | some r => rw [hr] at h; simp only at h ⊢; exact h
        | none =>
          rw [hr] at h
          simp only at h ⊢
          cases hs : zstep i ls st S with
          | none => rw [hs] at h; simp at h
          | some y =>
            obtain ⟨j, ls', st', S'⟩ := y
            rw [hs] at h
            cases j with
            | none => simp only at h ⊢; exact ih _ _ _ _ _ _ h
            | some t => simp only at h ⊢; exact ih _ _ _ _ _ _ h
theorem zex_le {C : ZC} {n m k : Nat} {is : List Ins} {ls st : List AV} {S : Sto} {x : Sto × AV} (hm : n ≤ m) (h : zex C n k is ls st S = some x) : zex C m k is ls st S = some x := by
  induction hm with
  | refl => exact h
  | step _ ih => exact zex_mono _ _ _ _ _ _ _ ih
theorem zex_det {C : ZC} {n m k : Nat} {is : List Ins} {ls st : List AV} {S : Sto} {x y : Sto × AV} (h1 : zex C n k is ls st S = some x) (h2 : zex C m k is ls st S = some y) : x = y := by
  have a := zex_le (Nat.le_max_left n m) h1
  have b := zex_le (Nat.le_max_right n m) h2
  rw [a] at b
  exact Option.some.inj b
theorem zG_step {C : ZC} {k : Nat} {i : Ins} {is : List Ins} {ls st ls' st' : List AV} {S S' : Sto} {Q : ZQ} (hc : zcall i = none) (hr : zret i st = none) (hs : zstep i ls st S = some (none, ls', st', S')) : zG C k (i :: is) ls st S Q = zG C k is ls' st' S' Q := by
  apply propext
  constructor
  · rintro ⟨n, S1, r, h, q⟩
    cases n with
    | zero => simp [zex] at h
    | succ n =>
      rw [zex, hc] at h
      simp only [hr, hs] at h
      exact ⟨n, S1, r, h, q⟩
  · rintro ⟨n, S1, r, h, q⟩
    refine ⟨n + 1, S1, r, ?_, q⟩
    rw [zex, hc]
    simp only [hr, hs]
    exact h
theorem zG_jump {C : ZC} {k : Nat} {i : Ins} {is : List Ins} {ls st ls' st' : List AV} {S S' : Sto} {t : Int} {Q : ZQ} (hc : zcall i = none) (hr : zret i st = none) (hs : zstep i ls st S = some (some t, ls', st', S')) : zG C k (i :: is) ls st S Q = zG C k (C k t) ls' st' S' Q := by
  apply propext
  constructor
  · rintro ⟨n, S1, r, h, q⟩
    cases n with
    | zero => simp [zex] at h
    | succ n =>
      rw [zex, hc] at h
      simp only [hr, hs] at h
      exact ⟨n, S1, r, h, q⟩
  · rintro ⟨n, S1, r, h, q⟩
    refine ⟨n + 1, S1, r, ?_, q⟩
    rw [zex, hc]
    simp only [hr, hs]
    exact h
theorem zG_ret {C : ZC} {k : Nat} {i : Ins} {is : List Ins} {ls st : List AV} {S : Sto} {r : AV} {Q : ZQ} (hc : zcall i = none) (hr : zret i st = some r) : zG C k (i :: is) ls st S Q = Q S r := by
  apply propext
  constructor
  · rintro ⟨n, S1, r1, h, q⟩
    cases n with
    | zero => simp [zex] at h
    | succ n =>
      rw [zex, hc] at h
      simp only [hr, Option.some.injEq, Prod.mk.injEq] at h
      obtain ⟨rfl, rfl⟩ := h
      exact q
  · intro q
    refine ⟨1, S, r, ?_, q⟩
    rw [zex, hc]
    simp only [hr]
theorem zG_call {C : ZC} {k c na ml : Nat} {rc : Option Int} {i : Ins} {is : List Ins} {ls st : List AV} {S : Sto} {Q : ZQ} (hc : zcall i = some (c, na, ml, rc, none)) (h1 : na ≤ st.length) (h2 : zw (st.drop na) ≤ 8) (h3 : zrcv rc (st.take na).reverse = true) (h5 : zw (st.take na).reverse ≤ ml) :
    zG C k (i :: is) ls st S Q = zCall C c ml (st.take na).reverse S (zK C k is ls (st.drop na) Q) := by
  apply propext
  constructor
  · rintro ⟨n, S1, r1, h, q⟩
    cases n with
    | zero => simp [zex] at h
    | succ n =>
      rw [zex, hc] at h
      simp only [if_pos (And.intro h1 (And.intro h2 (And.intro h3 h5)))] at h
      cases h4 : zex C n c (C c 0) (zloc ml (st.take na).reverse) [] S with
      | none => rw [h4] at h; simp at h
      | some y =>
        obtain ⟨S2, r2⟩ := y
        rw [h4] at h
        simp only at h
        by_cases h8 : r2.1 = 8
        · rw [if_pos h8] at h; simp at h
        · rw [if_neg h8] at h
          exact ⟨n, S2, r2, h4, h8, n, S1, r1, h, q⟩
  · rintro ⟨n, S2, r2, h4, h8, m, S1, r1, h, q⟩
    refine ⟨max n m + 1, S1, r1, ?_, q⟩
    rw [zex, hc]
    simp only [if_pos (And.intro h1 (And.intro h2 (And.intro h3 h5)))]
    rw [zex_le (Nat.le_max_left n m) h4]
    simp only [if_neg h8]
    exact zex_le (Nat.le_max_right n m) h
theorem zG_callh {C : ZC} {k c na ml : Nat} {rc : Option Int} {t : Int} {i : Ins} {is : List Ins} {ls st : List AV} {S : Sto} {Q : ZQ} (hc : zcall i = some (c, na, ml, rc, some t)) (h1 : na ≤ st.length) (h2 : zw (st.drop na) ≤ 8) (h3 : zrcv rc (st.take na).reverse = true) (h5 : zw (st.take na).reverse ≤ ml) :
    zG C k (i :: is) ls st S Q = zCall C c ml (st.take na).reverse S (zKh C k is ls (st.drop na) t Q) := by
  apply propext
  constructor
  · rintro ⟨n, S1, r1, h, q⟩
    cases n with
    | zero => simp [zex] at h
    | succ n =>
      rw [zex, hc] at h
      simp only [if_pos (And.intro h1 (And.intro h2 (And.intro h3 h5)))] at h
      cases h4 : zex C n c (C c 0) (zloc ml (st.take na).reverse) [] S with
      | none => rw [h4] at h; simp at h
      | some y =>
        obtain ⟨S2, r2⟩ := y
        rw [h4] at h
        simp only at h
        refine ⟨n, S2, r2, h4, ?_⟩
        unfold zKh
        by_cases h8 : r2.1 = 8
        · rw [if_pos h8] at h ⊢
          exact ⟨n, S1, r1, h, q⟩
        · rw [if_neg h8] at h ⊢
          exact ⟨n, S1, r1, h, q⟩
  · rintro ⟨n, S2, r2, h4, hk⟩
    unfold zKh at hk
    by_cases h8 : r2.1 = 8
    · rw [if_pos h8] at hk
      obtain ⟨m, S1, r1, h, q⟩ := hk
      refine ⟨max n m + 1, S1, r1, ?_, q⟩
      rw [zex, hc]
      simp only [if_pos (And.intro h1 (And.intro h2 (And.intro h3 h5)))]
      rw [zex_le (Nat.le_max_left n m) h4]
      simp only [if_pos h8]
      exact zex_le (Nat.le_max_right n m) h
    · rw [if_neg h8] at hk
      obtain ⟨m, S1, r1, h, q⟩ := hk
      refine ⟨max n m + 1, S1, r1, ?_, q⟩
      rw [zex, hc]
      simp only [if_pos (And.intro h1 (And.intro h2 (And.intro h3 h5)))]
      rw [zex_le (Nat.le_max_left n m) h4]
      simp only [if_neg h8]
      exact zex_le (Nat.le_max_right n m) h
theorem zG_mono {C : ZC} {k : Nat} {is : List Ins} {ls st : List AV} {S : Sto} {Q R : ZQ} (h : zG C k is ls st S Q) (hq : ∀ S' r, Q S' r → R S' r) : zG C k is ls st S R := by
  obtain ⟨n, S1, r, h1, q⟩ := h
  exact ⟨n, S1, r, h1, hq _ _ q⟩
theorem zCall_mono {C : ZC} {k ml : Nat} {as : List AV} {S : Sto} {Q R : ZQ} (h : zCall C k ml as S Q) (hq : ∀ S' r, Q S' r → R S' r) : zCall C k ml as S R := zG_mono h hq
theorem zG_and {C : ZC} {k : Nat} {is : List Ins} {ls st : List AV} {S : Sto} {Q R : ZQ} (h : zG C k is ls st S Q) (h2 : zG C k is ls st S R) : zG C k is ls st S (fun S' r => Q S' r ∧ R S' r) := by
  obtain ⟨n, S1, r, h1, q⟩ := h
  obtain ⟨m, S2, r2, h3, q2⟩ := h2
  have e := zex_det h1 h3
  simp only [Prod.mk.injEq] at e
  obtain ⟨rfl, rfl⟩ := e
  exact ⟨n, S1, r, h1, q, q2⟩
/-- two runs that have nothing to do with one another, either first -/
theorem zG_swap {C : ZC} {k k2 : Nat} {is is2 : List Ins} {ls st ls2 st2 : List AV} {S S2 : Sto} {Q : Sto → AV → Sto → AV → Prop} (h : zG C k is ls st S (fun A r => zG C k2 is2 ls2 st2 S2 (fun B t => Q A r B t))) : zG C k2 is2 ls2 st2 S2 (fun B t => zG C k is ls st S (fun A r => Q A r B t)) := by
  obtain ⟨n, S1, r, h1, m, S3, r3, h2, q⟩ := h
  exact ⟨m, S3, r3, h2, n, S1, r, h1, q⟩
