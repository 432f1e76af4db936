-- uses: 46 44
def zhl (m : Int) : Nat := if m < 24 then 0 else if m = 24 then 1 else if m = 25 then 2 else if m = 26 then 4 else 8
def zleast (m : Int) : Int := if m = 24 then 24 else if m = 25 then 256 else if m = 26 then 65536 else 4294967296
def zhv (B : Int → Int) (p : Int) : Int := if B p % 32 < 24 then B p % 32 else rdAcc B (zhl (B p % 32)) (p + 1) 0
abbrev zhbad (m v : Int) : Prop := 23 < m ∧ 0 ≤ v ∧ v < zleast m
abbrev zhk (B : Int → Int) (p al : Int) : Prop := 27 < B p % 32 ∨ B p / 32 = 3 ∨ B p / 32 = 7 ∨ (0 ≤ al ∧ B p / 32 ≠ al)
def rdH (B : Int → Int) (N p al : Int) : Except (Int × Int) (Int × Int × Int) :=
  if p = N then .error (1, p) else if zhk B p al then .error (3, p) else if N < p + 1 + zhl (B p % 32) then .error (1, N) else
  if zhbad (B p % 32) (zhv B p) then .error (2, p) else .ok (B p / 32, zhv B p, p + 1 + zhl (B p % 32))
/-- a number that was read has no shorter form -/
theorem zhv_w {B : Int → Int} {N p : Int} (hB : zby B N) (h0 : 0 ≤ p) (h1 : p + 1 + zhl (B p % 32) ≤ N) (h2 : B p % 32 ≤ 27) : (zhbad (B p % 32) (zhv B p) ↔ zwide (zhv B p) ≠ zhl (B p % 32)) ∧ zLong (zhv B p) ∧ (¬ zhbad (B p % 32) (zhv B p) → zbe (zhv B p) (zhl (B p % 32)) = ztxt B (p + 1) (zhl (B p % 32))) := by
  have b := hB p h0 (by omega)
  unfold zhv
  by_cases q : B p % 32 < 24
  · rw [if_pos q]
    have e : zhl (B p % 32) = 0 := by unfold zhl; rw [if_pos q]
    rw [e]
    refine ⟨?_, ?_, fun _ => rfl⟩
    · unfold zhbad zwide
      (repeat' split) <;> omega
    · unfold zLong; omega
  · rw [if_neg q]
    have w := rdAcc_z hB (zhl (B p % 32)) (p + 1) 0 0 (by omega) (by omega) rfl
    have bd := zacc_b hB (zhl (B p % 32)) (p + 1) 0 (by omega) (by omega) (by omega)
    have be := zbe_acc hB (zhl (B p % 32)) (p + 1) 0 (by omega) (by omega) (by omega)
    have : B p % 32 = 24 ∨ B p % 32 = 25 ∨ B p % 32 = 26 ∨ B p % 32 = 27 := by omega
    rcases this with z | z | z | z
    all_goals
      rw [z] at w bd be ⊢
      simp only [zhl, Int.reduceLT, Int.reduceEq, if_true, if_false, ite_true, ite_false, reduceIte] at w bd be ⊢
      simp only [Nat.reducePow, Int.cast_ofNat_Int, Int.zero_mul, Int.zero_add, Int.one_mul] at bd
    · rw [W64i (by omega) (by omega)] at w
      rw [w]
      refine ⟨?_, by unfold zLong; omega, fun _ => be⟩
      unfold zhbad zwide zleast
      (repeat' split) <;> omega
    · rw [W64i (by omega) (by omega)] at w
      rw [w]
      refine ⟨?_, by unfold zLong; omega, fun _ => be⟩
      unfold zhbad zwide zleast
      (repeat' split) <;> omega
    · rw [W64i (by omega) (by omega)] at w
      rw [w]
      refine ⟨?_, by unfold zLong; omega, fun _ => be⟩
      unfold zhbad zwide zleast
      (repeat' split) <;> omega
    · have r : -9223372036854775808 ≤ w64 (zacc B 8 (p + 1) 0) ∧ w64 (zacc B 8 (p + 1) 0) < 9223372036854775808 := by
        unfold w64; rw [Int.bmod_def]; split <;> omega
      rw [w]
      refine ⟨?_, by unfold zLong; omega, fun _ => by rw [zbe_w64, be]⟩
      unfold zhbad zwide zleast
      (repeat' split) <;> omega
theorem rdH_sound {B : Int → Int} {N p al kd v p1 : Int} (hB : zby B N) (h0 : 0 ≤ p) (hN : p ≤ N) (h : rdH B N p al = .ok (kd, v, p1)) :
    zeH kd v = ztxt B p (1 + zwide v) ∧ p1 = p + 1 + zwide v ∧ p1 ≤ N ∧ zLong v ∧ 0 ≤ kd ∧ kd < 7 ∧ kd ≠ 3 ∧ (0 ≤ al → kd = al) := by
  unfold rdH at h
  split at h
  · cases h
  rename_i h1
  split at h
  · cases h
  rename_i h2
  split at h
  · cases h
  rename_i h3
  split at h
  · cases h
  rename_i h4
  injection h with h
  injection h with e1 h
  injection h with e2 e3
  unfold zhk at h2
  have b := hB p h0 (by omega)
  have w := zhv_w hB h0 (by omega) (by omega)
  have w1 : zwide (zhv B p) = zhl (B p % 32) := by
    by_cases q : zwide (zhv B p) = zhl (B p % 32)
    · exact q
    · exact absurd (w.1.mpr q) h4
  subst e1 e2 e3
  refine ⟨?_, by omega, by omega, w.2.1, by omega, by omega, by omega, by omega⟩
  have be := w.2.2 h4
  unfold zeH
  rw [w1, Nat.add_comm, ztxt]
  by_cases q : B p % 32 < 24
  · have e : zhl (B p % 32) = 0 := by unfold zhl; rw [if_pos q]
    rw [if_pos e, e]
    have : zhv B p = B p % 32 := by unfold zhv; rw [if_pos q]
    rw [this]
    simp only [ztxt, List.cons.injEq, and_true]
    omega
  · have z : B p % 32 = 24 ∨ B p % 32 = 25 ∨ B p % 32 = 26 ∨ B p % 32 = 27 := by omega
    rw [if_neg (by rcases z with z | z | z | z <;> rw [z] <;> decide), be]
    congr 1
    rcases z with z | z | z | z <;> rw [z] <;> simp [zhl, zcode] <;> omega
/-- what was written is read again -/
theorem rdH_compl {B : Int → Int} {N p al kd v : Int} (hB : zby B N) (h0 : 0 ≤ p) (hk : 0 ≤ kd ∧ kd < 7 ∧ kd ≠ 3) (ha : 0 ≤ al → kd = al) (hv : zLong v) (hN : p + 1 + zwide v ≤ N) (h : ztxt B p (1 + zwide v) = zeH kd v) : rdH B N p al = .ok (kd, v, p + 1 + zwide v) := by
  have b := hB p h0 (by omega)
  rw [Nat.add_comm, ztxt] at h
  have key : B p / 32 = kd ∧ B p % 32 ≤ 27 ∧ zhl (B p % 32) = zwide v ∧ (zwide v = 0 → B p % 32 = v) ∧ (zwide v ≠ 0 → ztxt B (p + 1) (zwide v) = zbe v (zwide v)) ∧ (zwide v ≠ 0 → 23 < B p % 32) := by
    unfold zeH at h
    split at h
    · rename_i q
      have : 0 ≤ v ∧ v < 24 := by
        unfold zwide at q
        (repeat' split at q) <;> omega
      injection h with e _
      have m : B p % 32 = v := by omega
      refine ⟨by omega, by omega, ?_, fun _ => m, fun z => absurd q z, fun z => absurd q z⟩
      rw [q, m]; unfold zhl; rw [if_pos (by omega)]
    · rename_i q
      injection h with e e2
      have : zwide v = 1 ∨ zwide v = 2 ∨ zwide v = 4 ∨ zwide v = 8 := by
        unfold zwide at q ⊢
        (repeat' split) <;> simp_all
      refine ⟨?_, ?_, ?_, fun z => absurd z q, fun _ => e2, ?_⟩
      · rcases this with z | z | z | z <;> rw [z] at e <;> simp [zcode] at e <;> omega
      · rcases this with z | z | z | z <;> rw [z] at e <;> simp [zcode] at e <;> omega
      · rcases this with z | z | z | z <;> rw [z] at e ⊢ <;> simp [zcode] at e
        · have : B p % 32 = 24 := by omega
          rw [this]; rfl
        · have : B p % 32 = 25 := by omega
          rw [this]; rfl
        · have : B p % 32 = 26 := by omega
          rw [this]; rfl
        · have : B p % 32 = 27 := by omega
          rw [this]; rfl
      · intro _; rcases this with z | z | z | z <;> rw [z] at e <;> simp [zcode] at e <;> omega
  obtain ⟨k1, k2, k3, k4, k5, k6⟩ := key
  have hv2 : zhv B p = v := by
    unfold zhv
    by_cases q : zwide v = 0
    · have := k4 q
      have : 0 ≤ v ∧ v < 24 := by
        unfold zwide at q
        (repeat' split at q) <;> omega
      rw [if_pos (by omega)]; omega
    · rw [if_neg (by have := k6 q; omega), k3]
      have w := rdAcc_z hB (zwide v) (p + 1) 0 0 (by omega) (by omega) rfl
      have bd := zacc_b hB (zwide v) (p + 1) 0 (by omega) (by omega) (by omega)
      have be := zbe_acc hB (zwide v) (p + 1) 0 (by omega) (by omega) (by omega)
      rw [k5 q] at be
      rw [w]
      have : zwide v = 1 ∨ zwide v = 2 ∨ zwide v = 4 ∨ zwide v = 8 := by
        unfold zwide at q ⊢
        (repeat' split) <;> simp_all
      have up : (zwide v = 1 → 0 ≤ v ∧ v < 256) ∧ (zwide v = 2 → 0 ≤ v ∧ v < 65536) ∧ (zwide v = 4 → 0 ≤ v ∧ v < 4294967296) := by
        unfold zwide
        (repeat' split) <;> omega
      unfold zLong at hv
      rcases this with z | z | z | z
      · have u := up.1 z
        rw [z] at be bd ⊢
        simp only [zbe, Nat.reducePow, Int.cast_ofNat_Int, List.cons.injEq, and_true] at be bd
        rw [W64i (by omega) (by omega)]; omega
      · have u := up.2.1 z
        rw [z] at be bd ⊢
        simp only [zbe, Nat.reducePow, Int.cast_ofNat_Int, List.cons.injEq, and_true] at be bd
        rw [W64i (by omega) (by omega)]; omega
      · have u := up.2.2 z
        rw [z] at be bd ⊢
        simp only [zbe, Nat.reducePow, Int.cast_ofNat_Int, List.cons.injEq, and_true] at be bd
        rw [W64i (by omega) (by omega)]; omega
      · rw [z] at be bd ⊢
        simp only [zbe, Nat.reducePow, Int.cast_ofNat_Int, List.cons.injEq, and_true] at be bd
        obtain ⟨x, hx⟩ : ∃ x, x = zacc B 8 (p + 1) 0 := ⟨_, rfl⟩
        rw [← hx] at be bd ⊢
        unfold w64; rw [Int.bmod_def]
        split <;> omega
  have hb : ¬ zhbad (B p % 32) (zhv B p) := by
    intro q
    have := (zhv_w hB h0 (by omega) k2).1.mp q
    rw [hv2, k3] at this
    exact this rfl
  unfold rdH
  rw [if_neg (by omega), if_neg (by unfold zhk; omega), if_neg (by omega), if_neg hb, k1, hv2, k3]
