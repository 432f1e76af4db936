-- uses: 30
/-! bits -/
theorem bmod_small {x : Int} {n : Nat} (h0 : 0 ≤ x) (h1 : 2 * x < n) : Int.bmod x n = x := by
  rw [Int.bmod_def]
  have : x % (n : Int) = x := Int.emod_eq_of_lt h0 (by omega)
  rw [this]
  split <;> omega
theorem zand_mask (a : Int) (k : Nat) (h : k < 31) : zand a ((2 ^ k - 1 : Nat) : Int) = a % (2 ^ k : Nat) := by
  unfold zand
  have e1 : (Int32.ofInt a &&& Int32.ofInt ((2 ^ k - 1 : Nat) : Int)).toInt = ((BitVec.ofInt 32 a &&& BitVec.ofNat 32 (2 ^ k - 1)) : BitVec 32).toInt := rfl
  have p : 2 ^ k < 2 ^ 31 := Nat.pow_lt_pow_right (by omega) h
  have p0 : 0 < 2 ^ k := Nat.two_pow_pos k
  rw [e1, BitVec.toInt_eq_toNat_bmod, BitVec.toNat_and, BitVec.toNat_ofNat, Nat.mod_eq_of_lt (by omega), Nat.and_two_pow_sub_one_eq_mod, BitVec.toNat_ofInt]
  have e2 : ((((a % ((2 ^ 32 : Nat) : Int)).toNat % 2 ^ k : Nat)) : Int) = a % (2 ^ k : Nat) := by
    rw [Int.natCast_emod, Int.toNat_of_nonneg (Int.emod_nonneg _ (by decide))]
    apply Int.emod_emod_of_dvd
    exact_mod_cast Nat.pow_dvd_pow 2 (by omega : k ≤ 32)
  rw [e2]
  have b0 : 0 ≤ a % ((2 ^ k : Nat) : Int) := Int.emod_nonneg _ (by omega)
  have b1 : a % ((2 ^ k : Nat) : Int) < ((2 ^ k : Nat) : Int) := Int.emod_lt_of_pos _ (by omega)
  exact bmod_small b0 (by omega)
theorem zand255 (a : Int) : zand a 255 = a % 256 := zand_mask a 8 (by omega)
theorem zand127 (a : Int) : zand a 127 = a % 128 := zand_mask a 7 (by omega)
theorem zand31 (a : Int) : zand a 31 = a % 32 := zand_mask a 5 (by omega)
theorem zand15 (a : Int) : zand a 15 = a % 16 := zand_mask a 4 (by omega)
theorem zshr5 : ∀ b : Fin 256, zishr (b.val : Int) 5 = (b.val : Int) / 32 := by decide +kernel
theorem zishr5 {b : Int} (h0 : 0 ≤ b) (h1 : b < 256) : zishr b 5 = b / 32 := by
  have := zshr5 ⟨b.toNat, by omega⟩
  simpa [Int.toNat_of_nonneg h0] using this
theorem zand64' : ∀ b : Fin 256, zand (b.val : Int) 64 = if (b.val : Int) % 128 < 64 then 0 else 64 := by decide +kernel
theorem zand64 {b : Int} (h0 : 0 ≤ b) (h1 : b < 256) : zand b 64 = if b % 128 < 64 then 0 else 64 := by
  have := zand64' ⟨b.toNat, by omega⟩
  simpa [Int.toNat_of_nonneg h0] using this
theorem z1shl : ∀ k : Fin 4, zishl 1 (k.val : Int) = 2 ^ k.val := by decide +kernel
/-- a long shifted -/
theorem zsh_e (k : Nat) (h : k < 64) : (((Int32.ofInt (k : Int)).toInt64 &&& 63).toBitVec.smod 64).toNat = k := by
  have : ∀ j : Fin 64, (((Int32.ofInt (j.val : Int)).toInt64 &&& 63).toBitVec.smod 64).toNat = j.val := by decide +kernel
  exact this ⟨k, h⟩
theorem i64_rng {a : Int} (ha : -9223372036854775808 ≤ a) (hb : a < 9223372036854775808) : (Int64.ofInt a).toInt = a := by
  rw [Int64.toInt_ofInt]
  exact W64i ha hb
theorem zlshr_s (a : Int) (k : Nat) (h : k < 64) (ha : -9223372036854775808 ≤ a) (hb : a < 9223372036854775808) : zlshr a (k : Int) = a / (2 ^ k : Nat) := by
  unfold zlshr
  have e : (Int64.ofInt a >>> ((Int32.ofInt (k : Int)).toInt64 &&& 63)).toInt = ((Int64.ofInt a).toBitVec.sshiftRight (((Int32.ofInt (k : Int)).toInt64 &&& 63).toBitVec.smod 64).toNat).toInt := by
    show (Int64.ofInt a >>> ((Int32.ofInt (k : Int)).toInt64 &&& 63)).toBitVec.toInt = _
    rw [Int64.toBitVec_shiftRight, BitVec.sshiftRight_eq']
  rw [e, zsh_e k h, BitVec.toInt_sshiftRight, Int.shiftRight_eq_div_pow]
  show (Int64.ofInt a).toInt / _ = _
  rw [i64_rng ha hb]
theorem zlshl_s (a : Int) (k : Nat) (h : k < 64) : zlshl a (k : Int) = w64 (a * (2 ^ k : Nat)) := by
  unfold zlshl w64
  have e : (Int64.ofInt a <<< ((Int32.ofInt (k : Int)).toInt64 &&& 63)).toInt = ((Int64.ofInt a).toBitVec <<< (((Int32.ofInt (k : Int)).toInt64 &&& 63).toBitVec.smod 64).toNat).toInt := by
    show (Int64.ofInt a <<< ((Int32.ofInt (k : Int)).toInt64 &&& 63)).toBitVec.toInt = _
    rw [Int64.toBitVec_shiftLeft, BitVec.shiftLeft_eq']
  rw [e, zsh_e k h, BitVec.toInt_shiftLeft]
  show Int.bmod ((((BitVec.ofInt 64 a).toNat <<< k : Nat)) : Int) (2 ^ 64) = _
  rw [Nat.shiftLeft_eq, BitVec.toNat_ofInt, Int.natCast_mul, Int.toNat_of_nonneg (Int.emod_nonneg _ (by decide))]
  show Int.bmod (a % 18446744073709551616 * _) 18446744073709551616 = Int.bmod (a * _) 18446744073709551616
  exact Int.emod_mul_bmod a 18446744073709551616
theorem zlor_add (v b : Int) (k : Nat) (h : k < 64) (h0 : 0 ≤ b) (h1 : b < (2 ^ k : Nat)) : zlor (zlshl v (k : Int)) b = w64 (v * (2 ^ k : Nat) + b) := by
  rw [zlshl_s v k h]
  have p : (2 ^ k : Nat) ≤ 2 ^ 63 := Nat.pow_le_pow_right (by omega) (by omega)
  obtain ⟨c, rfl⟩ := Int.eq_ofNat_of_zero_le h0
  unfold zlor
  have e1 : (Int64.ofInt (w64 (v * (2 ^ k : Nat)))).toBitVec = (BitVec.ofInt 64 v) <<< k := by
    apply BitVec.eq_of_toInt_eq
    have := zlshl_s v k h
    unfold zlshl at this
    have e : (Int64.ofInt v <<< ((Int32.ofInt (k : Int)).toInt64 &&& 63)).toInt = ((Int64.ofInt v).toBitVec <<< (((Int32.ofInt (k : Int)).toInt64 &&& 63).toBitVec.smod 64).toNat).toInt := by
      show (Int64.ofInt v <<< ((Int32.ofInt (k : Int)).toInt64 &&& 63)).toBitVec.toInt = _
      rw [Int64.toBitVec_shiftLeft, BitVec.shiftLeft_eq']
    rw [e, zsh_e k h] at this
    show (Int64.ofInt (w64 (v * (2 ^ k : Nat)))).toInt = ((Int64.ofInt v).toBitVec <<< k).toInt
    rw [this, Int64.toInt_ofInt]
    unfold w64
    exact Int.bmod_bmod
  have e2 : (Int64.ofInt (c : Int)).toBitVec = BitVec.ofNat 64 c := rfl
  show ((Int64.ofInt (w64 (v * (2 ^ k : Nat)))).toBitVec ||| (Int64.ofInt (c : Int)).toBitVec).toInt = _
  rw [e1, e2, ← BitVec.add_eq_or_of_and_eq_zero]
  · have f1 : ((BitVec.ofInt 64 v) <<< k).toInt = w64 (v * (2 ^ k : Nat)) := by
      rw [← e1]
      show (Int64.ofInt (w64 (v * (2 ^ k : Nat)))).toInt = _
      rw [Int64.toInt_ofInt]
      unfold w64
      exact Int.bmod_bmod
    have f2 : (BitVec.ofNat 64 c).toInt = (c : Int) := by
      rw [BitVec.toInt_eq_toNat_bmod, BitVec.toNat_ofNat, Nat.mod_eq_of_lt (by omega)]
      exact bmod_small (by omega) (by omega)
    rw [BitVec.toInt_add, f1, f2]
    unfold w64
    exact Int.bmod_add_bmod
  · apply BitVec.eq_of_getLsbD_eq
    intro i hi
    rw [BitVec.getLsbD_and, BitVec.getLsbD_shiftLeft, BitVec.getLsbD_ofNat]
    by_cases q : i < k
    · simp [q]
    · have : c.testBit i = false := Nat.testBit_lt_two_pow (Nat.lt_of_lt_of_le (by omega) (Nat.pow_le_pow_right (by omega) (by omega : k ≤ i)))
      simp [this]
theorem zlushr32 (a : Int) (ha : -9223372036854775808 ≤ a) (hb : a < 9223372036854775808) : (zlushr a 32 = 0) = (0 ≤ a ∧ a < 4294967296) := by
  unfold zlushr
  have e0 : ((Int32.ofInt 32).toInt64.toUInt64 &&& Int64.toUInt64 63) = 32 := by decide +kernel
  rw [e0]
  have e1 : ((Int64.ofInt a).toUInt64 >>> (32 : UInt64)).toNat = ((a % 18446744073709551616).toNat) / 4294967296 := by
    rw [UInt64.toNat_shiftRight]
    show ((BitVec.ofInt 64 a).toNat >>> (32 % 64)) = _
    rw [BitVec.toNat_ofInt, Nat.shiftRight_eq_div_pow]
    rfl
  have e2 : ((Int64.ofInt a).toUInt64 >>> (32 : UInt64)).toInt64.toInt = (((a % 18446744073709551616).toNat / 4294967296 : Nat) : Int) := by
    show (((Int64.ofInt a).toUInt64 >>> (32 : UInt64)).toBitVec).toInt = _
    rw [BitVec.toInt_eq_toNat_bmod]
    show Int.bmod ((((Int64.ofInt a).toUInt64 >>> (32 : UInt64)).toNat : Nat) : Int) _ = _
    rw [e1]
    exact bmod_small (by omega) (by omega)
  rw [e2]
  apply propext
  omega
