-- uses: 30
/-! what can be decided -/
theorem le_tt {a b : Int} (h : a ≤ b) : (a ≤ b) = True := eq_true h
theorem le_ff {a b : Int} (h : b < a) : (a ≤ b) = False := eq_false (by omega)
theorem lt_tt {a b : Int} (h : a < b) : (a < b) = True := eq_true h
theorem lt_ff {a b : Int} (h : b ≤ a) : (a < b) = False := eq_false (by omega)
theorem eq_tt {a b : Int} (h : a = b) : (a = b) = True := eq_true h
theorem eq_ff {a b : Int} (h : a ≠ b) : (a = b) = False := eq_false h
