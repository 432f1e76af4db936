/-! the code checked, a share (printed) -/
theorem zka100 : ∀ k, k < 1 → zkall (k + 373) = true := by decide +kernel
theorem zka101 : ∀ k, k < 3 → zkall (k + 374) = true := by decide +kernel
theorem zka102 : ∀ k, k < 2 → zkall (k + 377) = true := by decide +kernel
theorem zka103 : ∀ k, k < 3 → zkall (k + 379) = true := by decide +kernel
theorem zka104 : ∀ k, k < 1 → zkall (k + 382) = true := by decide +kernel
theorem zka105 : ∀ k, k < 2 → zkall (k + 383) = true := by decide +kernel
theorem zka106 : ∀ k, k < 1 → zkall (k + 385) = true := by decide +kernel
theorem zka107 : ∀ k, k < 2 → zkall (k + 386) = true := by decide +kernel
theorem zka108 : ∀ k, k < 1 → zkall (k + 388) = true := by decide +kernel
theorem zka109 : ∀ k, k < 3 → zkall (k + 389) = true := by decide +kernel
theorem zka110 : ∀ k, k < 2 → zkall (k + 392) = true := by decide +kernel
theorem zka111 : ∀ k, k < 8 → zkall (k + 394) = true := by decide +kernel
theorem zka112 : ∀ k, k < 2 → zkall (k + 402) = true := by decide +kernel
theorem zka113 : ∀ k, k < 7 → zkall (k + 404) = true := by decide +kernel
