-- uses: 45
/-! data as plain trees; their bytes; a reader -/
abbrev F : Type := Std.DTreeMap.Internal.Impl (Int × Int × List Int) (fun _ => Unit)
def fcons (fm tg : Int) (tx : List Int) (ks r : F) : F := .inner 0 (fm, tg, tx) () ks r
def flen : F → Int
  | .leaf => 0
  | .inner _ _ _ _ r => 1 + flen r
def fsize : F → Int
  | .leaf => 0
  | .inner _ _ _ ks r => 1 + fsize ks + fsize r
def fdep : F → Int
  | .leaf => 0
  | .inner _ _ _ ks r => if fdep r ≤ 1 + fdep ks then 1 + fdep ks else fdep r
theorem fsize0 : ∀ f : F, 0 ≤ fsize f
  | .leaf => by simp [fsize]
  | .inner _ _ _ ks r => by have := fsize0 ks; have := fsize0 r; simp only [fsize]; omega
theorem flen0 : ∀ f : F, 0 ≤ flen f
  | .leaf => by simp [flen]
  | .inner _ _ _ _ r => by have := flen0 r; simp only [flen]; omega
def zct (fm : Int) (tx : List Int) (ks : F) : Int := if fm = 4 then tx.length else if fm = 1 then flen ks / 2 else if fm = 3 then 0 else flen ks
/-- how many bytes a number takes -/
def zwide (v : Int) : Nat := if ¬ (0 ≤ v ∧ v < 4294967296) then 8 else if 65536 ≤ v then 4 else if 256 ≤ v then 2 else if 24 ≤ v then 1 else 0
def zbe (v : Int) : Nat → List Int
  | 0 => []
  | c + 1 => (v / (256 ^ c : Nat)) % 256 :: zbe v c
theorem zbe_len (v : Int) : ∀ c, (zbe v c).length = c := by
  intro c
  induction c with
  | zero => rfl
  | succ c ih => simp [zbe, ih]
def zcode (n : Nat) : Int := if n = 8 then 3 else (n / 2 : Nat)
def zeH (kd v : Int) : List Int := if zwide v = 0 then [32 * kd + v] else (32 * kd + 24 + zcode (zwide v)) :: zbe v (zwide v)
theorem zeH_len (kd v : Int) : (zeH kd v).length = 1 + zwide v := by
  unfold zeH
  split
  · simp_all
  · simp [zbe_len]; omega
def ztag (n : Int) : Int := if n < 7 then 121 + n else 1273 + n
def zhdr (fm tg : Int) (tx : List Int) (n : Int) : List Int := if fm = 3 then zeH (if tg < 0 then 1 else 0) (if tg < 0 then -1 - tg else tg) else if fm = 4 then zeH 2 n ++ tx else if fm = 2 then zeH 4 n else if fm = 1 then zeH 5 n else zeH 6 (ztag tg) ++ zeH 4 n
def fenc : F → List Int
  | .leaf => []
  | .inner _ (fm, tg, tx) _ ks r => zhdr fm tg tx (zct fm tx ks) ++ (fenc ks ++ fenc r)
def ztxt (B : Int → Int) (p : Int) : Nat → List Int
  | 0 => []
  | c + 1 => B p :: ztxt B (p + 1) c
theorem ztxt_len (B : Int → Int) : ∀ c p, (ztxt B p c).length = c := by
  intro c
  induction c with
  | zero => intro; rfl
  | succ c ih => intro p; simp [ztxt, ih]
theorem ztxt_add (B : Int → Int) (d : Nat) : ∀ (c : Nat) (p : Int), ztxt B p (c + d) = ztxt B p c ++ ztxt B (p + c) d := by
  intro c
  induction c with
  | zero => intro p; simp [ztxt]
  | succ c ih =>
    intro p
    rw [show c + 1 + d = c + d + 1 by omega, ztxt, ztxt, ih, show p + 1 + (c : Int) = p + ((c + 1 : Nat) : Int) by omega]
    rfl
/-! heads -/
def rdAcc (B : Int → Int) : Nat → Int → Int → Int
  | 0, _, v => v
  | c + 1, p, v => rdAcc B c (p + 1) (zlor (zlshl v 8) (B p))
def zacc (B : Int → Int) : Nat → Int → Int → Int
  | 0, _, v => v
  | c + 1, p, v => zacc B c (p + 1) (v * 256 + B p)
def zby (B : Int → Int) (N : Int) : Prop := ∀ p, 0 ≤ p → p < N → 0 ≤ B p ∧ B p < 256
theorem rdAcc_z {B : Int → Int} {N : Int} (hB : zby B N) : ∀ (c : Nat) (p v u : Int), 0 ≤ p → p + c ≤ N → v = w64 u → rdAcc B c p v = w64 (zacc B c p u) := by
  intro c
  induction c with
  | zero => intro p v u _ _ h; exact h
  | succ c ih =>
    intro p v u h0 h1 h
    have b := hB p h0 (by omega)
    rw [rdAcc, zacc]
    apply ih _ _ _ (by omega) (by omega)
    have := zlor_add v (B p) 8 (by omega) b.1 (by omega)
    rw [show ((8 : Nat) : Int) = 8 by rfl] at this
    rw [this, h]
    unfold w64
    show Int.bmod (Int.bmod u 18446744073709551616 * 256 + B p) 18446744073709551616 = Int.bmod (u * 256 + B p) 18446744073709551616
    rw [← Int.bmod_add_bmod (x := Int.bmod u 18446744073709551616 * 256), Int.bmod_mul_bmod, Int.bmod_add_bmod]
theorem zacc_b {B : Int → Int} {N : Int} (hB : zby B N) : ∀ (c : Nat) (p v : Int), 0 ≤ p → p + c ≤ N → 0 ≤ v → v * (256 ^ c : Nat) ≤ zacc B c p v ∧ zacc B c p v < (v + 1) * (256 ^ c : Nat) := by
  intro c
  induction c with
  | zero => intro p v _ _ _; simp [zacc]; omega
  | succ c ih =>
    intro p v h0 h1 h2
    have b := hB p h0 (by omega)
    have a := ih (p + 1) (v * 256 + B p) (by omega) (by omega) (by omega)
    rw [zacc]
    have e : ((256 ^ (c + 1) : Nat) : Int) = 256 * (256 ^ c : Nat) := by rw [Nat.pow_succ, Nat.mul_comm]; simp
    have p0 : (0 : Int) < (256 ^ c : Nat) := by have := Nat.pow_pos (n := c) (show 0 < 256 by omega); omega
    rw [e]
    constructor
    · refine Int.le_trans ?_ a.1
      rw [← Int.mul_assoc]
      exact Int.mul_le_mul_of_nonneg_right (by omega) (by omega)
    · refine Int.lt_of_lt_of_le a.2 ?_
      rw [← Int.mul_assoc]
      exact Int.mul_le_mul_of_nonneg_right (by omega) (by omega)
theorem zbe_acc {B : Int → Int} {N : Int} (hB : zby B N) : ∀ (c : Nat) (p v : Int), 0 ≤ p → p + c ≤ N → 0 ≤ v → zbe (zacc B c p v) c = ztxt B p c := by
  intro c
  induction c with
  | zero => intros; rfl
  | succ c ih =>
    intro p v h0 h1 h2
    have b := hB p h0 (by omega)
    have a := zacc_b hB c (p + 1) (v * 256 + B p) (by omega) (by omega) (by omega)
    have p0 : (0 : Int) < (256 ^ c : Nat) := by have := Nat.pow_pos (n := c) (show 0 < 256 by omega); omega
    rw [zbe, ztxt, zacc, ih (p + 1) _ (by omega) (by omega) (by omega)]
    congr 1
    have : zacc B c (p + 1) (v * 256 + B p) / ((256 ^ c : Nat) : Int) = v * 256 + B p := by
      apply Int.le_antisymm
      · exact Int.le_of_lt_add_one (Int.ediv_lt_of_lt_mul p0 a.2)
      · exact Int.le_ediv_of_mul_le p0 a.1
    rw [this]
    omega
theorem zbe_w64 (x : Int) : zbe (w64 x) 8 = zbe x 8 := by
  have h : ∃ q, w64 x = x - 18446744073709551616 * q := by
    unfold w64
    rw [Int.bmod_def]
    have := Int.emod_add_mul_ediv x 18446744073709551616
    split
    · exact ⟨x / 18446744073709551616, by omega⟩
    · exact ⟨x / 18446744073709551616 + 1, by omega⟩
  obtain ⟨q, h⟩ := h
  rw [h]
  simp only [zbe, Nat.reducePow, Int.cast_ofNat_Int]
  simp only [List.cons.injEq, and_true]
  refine ⟨?_, ?_, ?_, ?_, ?_, ?_, ?_, ?_⟩ <;> omega
