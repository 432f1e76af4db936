/-! SOUNDNESS 9: whole runs -/
def zun4 (i : Ins) : Ins := match i with
  | (.getfield x, [a, b, c, _]) => (.getfield x, [a, b, c])
  | i => i
/-- the code that reads every field from the store -/
def Cs : ZC := fun k t => (Cd k t).map zun4
def zcop (k : Nat) (i : Ins) : Bool := match i.1, i.2 with
  | .invokevirtual idx, [c, n, ml, t] => decide (c.toNat ∈ zREG ∧ zna c.toNat = n.toNat ∧ zml c.toNat = ml.toNat ∧ zfr c.toNat + 1 ≤ zfr k ∧ 8 + (zml c.toNat + 11) + zlo c.toNat ≤ zlo k ∧ zkd c.toNat = 1 ∧ 10 ≤ t ∧ ztn t = (zy c.toNat).cls ∧ (zy c.toNat).cls ≠ "") && (decide ((zon k, idx, c.toNat) ∈ zlm) || zlmN.any (fun e => decide (e.1 = zon k ∧ e.2.1 = idx ∧ e.2.2.1 = c.toNat)))
  | .invokespecial idx, [c, n, ml, t] => decide (c.toNat ∈ zREG ∧ zna c.toNat = n.toNat ∧ zml c.toNat = ml.toNat ∧ zfr c.toNat + 1 ≤ zfr k ∧ 8 + (zml c.toNat + 11) + zlo c.toNat ≤ zlo k ∧ zkd c.toNat = 2 ∧ 10 ≤ t) && (decide ((zon k, idx, c.toNat) ∈ zlm) || zlmN.any (fun e => decide (e.1 = zon k ∧ e.2.1 = idx ∧ e.2.2.1 = c.toNat)))
  | .invokestatic idx, [c, n, ml] => decide (c.toNat ∈ zREG ∧ zna c.toNat = n.toNat ∧ zml c.toNat = ml.toNat ∧ zfr c.toNat + 1 ≤ zfr k ∧ 8 + (zml c.toNat + 11) + zlo c.toNat ≤ zlo k ∧ zkd c.toNat = 0 ∧ (zon k, idx, c.toNat) ∈ zlm)
  | _, _ => false
def zrop (k : Nat) (i : Ins) : Bool := match i.1, i.2 with
  | .return_, [] => decide (zrt k = none)
  | .ireturn, [bo] => decide ((bo = 0 ∧ zrt k = some .int) ∨ (bo = 1 ∧ zrt k = some .boolean))
  | .lreturn, [] => decide (zrt k = some .long)
  | .areturn, [_] => (match zrt k with
    | some (.object _) => true
    | _ => false)
  | _, _ => false
def zisr : Jvm.ClassFile.Instr → Bool
  | .return_ => true
  | .ireturn => true
  | .lreturn => true
  | .areturn => true
  | .athrow => true
  | _ => false
def zopA (k pc : Nat) (i : Ins) : Bool := if (zcall i).isSome then zcop k i else if zisr i.1 then zrop k i else zop k pc i
def zf4 (i : Ins) : Bool := match i with
  | (.getfield _, [_, _, _, _]) => false
  | _ => true
def zchk (k : Nat) : Nat → List Ins → Bool
  | _, [] => true
  | pc, i :: is => match i with
    | (.nop, [t]) => decide (t = (pc : Int))
    | (.nop, [c, n]) => decide (0 ≤ c ∧ 0 ≤ n ∧ is = [(.athrow, [])])
    | (.nop, _) => false
    | i => match decode (zb k) pc with
      | .ok (j, n) => decide (j = i.1) && (zswb i.1 || decide (n = zil i.1)) && zopA k pc i && zf4 i && zchk k (pc + n) is
      | .error _ => false
def zkall (k : Nat) : Bool := k == 1 || ((Kall.getD (k / 20) []).getD (k % 20) []).all (fun e => zchk k e.1.toNat (e.2.map zun4) && decide (0 ≤ e.1))
