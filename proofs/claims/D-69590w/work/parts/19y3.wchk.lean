/-! the code keeps to its write sets (printed) -/
theorem zmk0 : ∀ k, k < 40 → zmchk (k + 0) = true := by decide +kernel
theorem zmk1 : ∀ k, k < 40 → zmchk (k + 40) = true := by decide +kernel
theorem zmk2 : ∀ k, k < 40 → zmchk (k + 80) = true := by decide +kernel
theorem zmk3 : ∀ k, k < 40 → zmchk (k + 120) = true := by decide +kernel
theorem zmk4 : ∀ k, k < 40 → zmchk (k + 160) = true := by decide +kernel
theorem zmk5 : ∀ k, k < 40 → zmchk (k + 200) = true := by decide +kernel
theorem zmk6 : ∀ k, k < 40 → zmchk (k + 240) = true := by decide +kernel
theorem zmk7 : ∀ k, k < 40 → zmchk (k + 280) = true := by decide +kernel
theorem zmk8 : ∀ k, k < 40 → zmchk (k + 320) = true := by decide +kernel
theorem zmk9 : ∀ k, k < 40 → zmchk (k + 360) = true := by decide +kernel
theorem zmk10 : ∀ k, k < 12 → zmchk (k + 400) = true := by decide +kernel
theorem zmk_lt (k : Nat) (h : k < 412) : zmchk k = true := by
  by_cases h0 : k < 40
  · have := zmk0 (k - 0) (by omega); rwa [show k - 0 + 0 = k by omega] at this
  by_cases h1 : k < 80
  · have := zmk1 (k - 40) (by omega); rwa [show k - 40 + 40 = k by omega] at this
  by_cases h2 : k < 120
  · have := zmk2 (k - 80) (by omega); rwa [show k - 80 + 80 = k by omega] at this
  by_cases h3 : k < 160
  · have := zmk3 (k - 120) (by omega); rwa [show k - 120 + 120 = k by omega] at this
  by_cases h4 : k < 200
  · have := zmk4 (k - 160) (by omega); rwa [show k - 160 + 160 = k by omega] at this
  by_cases h5 : k < 240
  · have := zmk5 (k - 200) (by omega); rwa [show k - 200 + 200 = k by omega] at this
  by_cases h6 : k < 280
  · have := zmk6 (k - 240) (by omega); rwa [show k - 240 + 240 = k by omega] at this
  by_cases h7 : k < 320
  · have := zmk7 (k - 280) (by omega); rwa [show k - 280 + 280 = k by omega] at this
  by_cases h8 : k < 360
  · have := zmk8 (k - 320) (by omega); rwa [show k - 320 + 320 = k by omega] at this
  by_cases h9 : k < 400
  · have := zmk9 (k - 360) (by omega); rwa [show k - 360 + 360 = k by omega] at this
  by_cases h10 : k < 412
  · have := zmk10 (k - 400) (by omega); rwa [show k - 400 + 400 = k by omega] at this
  omega
theorem zmk_ok (k : Nat) : zmchk k = true := by
  by_cases h : k < 412
  · exact zmk_lt k h
  · unfold zmchk
    rw [zKall_ge k (by omega)]
    rfl
