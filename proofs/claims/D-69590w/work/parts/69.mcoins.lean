-- uses: 68d
theorem m_before (S : Sto) (Q : ZQ) (a b c d : Int) : zCall Cd 291 8 [(1, a), (1, b), (1, c), (1, d)] S Q = Q S (0, if a < c ∨ a = c ∧ zuns b < zuns d then 1 else 0) := by
  unfold zuns
  by_cases q : a < c
  · rw [if_pos (Or.inl q)]
    iterate 14 (try (simp only [M291]; simp (disch := omega) only [bcd, true_and, and_true, and_self, if_true, if_false, ite_true, ite_false, reduceIte, Int.reduceEq, Int.reduceNe, Int.reduceLT, Int.reduceLE, Int.reduceAdd, Int.reduceSub, Int.reduceMul, Int.reduceNeg, Int.reduceMod, Int.reduceDiv, Int.reduceToNat, Nat.reduceAdd, Nat.reduceLeDiff, List.length_cons, List.length_nil, not_false_eq_true, not_true_eq_false, ne_eq, or_false, false_or, or_self, false_and, and_false, or_true, true_or, ite_self, Int.add_sub_cancel, Int.sub_add_cancel, b_lc1, b_lc2, b_lc3, b_lc4, b_lc5, up_eq, up_ei, up_n1, up_n2, W32i, W8i, W16i, W64i, if_ps, if_ng, and_tr, fil_n1, fil_in, fil_out, le_tt, le_ff, lt_tt, lt_ff, eq_tt, eq_ff]))
  · by_cases r : a = c
    · by_cases u : w64 (b + -9223372036854775808) < w64 (d + -9223372036854775808)
      · rw [if_pos (Or.inr ⟨r, u⟩)]
        iterate 14 (try (simp only [M291]; simp (disch := omega) only [bcd, true_and, and_true, and_self, if_true, if_false, ite_true, ite_false, reduceIte, Int.reduceEq, Int.reduceNe, Int.reduceLT, Int.reduceLE, Int.reduceAdd, Int.reduceSub, Int.reduceMul, Int.reduceNeg, Int.reduceMod, Int.reduceDiv, Int.reduceToNat, Nat.reduceAdd, Nat.reduceLeDiff, List.length_cons, List.length_nil, not_false_eq_true, not_true_eq_false, ne_eq, or_false, false_or, or_self, false_and, and_false, or_true, true_or, ite_self, Int.add_sub_cancel, Int.sub_add_cancel, b_lc1, b_lc2, b_lc3, b_lc4, b_lc5, up_eq, up_ei, up_n1, up_n2, W32i, W8i, W16i, W64i, if_ps, if_ng, and_tr, fil_n1, fil_in, fil_out, le_tt, le_ff, lt_tt, lt_ff, eq_tt, eq_ff, u]))
      · rw [if_neg (by omega)]
        iterate 14 (try (simp only [M291]; simp (disch := omega) only [bcd, true_and, and_true, and_self, if_true, if_false, ite_true, ite_false, reduceIte, Int.reduceEq, Int.reduceNe, Int.reduceLT, Int.reduceLE, Int.reduceAdd, Int.reduceSub, Int.reduceMul, Int.reduceNeg, Int.reduceMod, Int.reduceDiv, Int.reduceToNat, Nat.reduceAdd, Nat.reduceLeDiff, List.length_cons, List.length_nil, not_false_eq_true, not_true_eq_false, ne_eq, or_false, false_or, or_self, false_and, and_false, or_true, true_or, ite_self, Int.add_sub_cancel, Int.sub_add_cancel, b_lc1, b_lc2, b_lc3, b_lc4, b_lc5, up_eq, up_ei, up_n1, up_n2, W32i, W8i, W16i, W64i, if_ps, if_ng, and_tr, fil_n1, fil_in, fil_out, le_tt, le_ff, lt_tt, lt_ff, eq_tt, eq_ff, u]))
    · rw [if_neg (by omega)]
      iterate 14 (try (simp only [M291]; simp (disch := omega) only [bcd, true_and, and_true, and_self, if_true, if_false, ite_true, ite_false, reduceIte, Int.reduceEq, Int.reduceNe, Int.reduceLT, Int.reduceLE, Int.reduceAdd, Int.reduceSub, Int.reduceMul, Int.reduceNeg, Int.reduceMod, Int.reduceDiv, Int.reduceToNat, Nat.reduceAdd, Nat.reduceLeDiff, List.length_cons, List.length_nil, not_false_eq_true, not_true_eq_false, ne_eq, or_false, false_or, or_self, false_and, and_false, or_true, true_or, ite_self, Int.add_sub_cancel, Int.sub_add_cancel, b_lc1, b_lc2, b_lc3, b_lc4, b_lc5, up_eq, up_ei, up_n1, up_n2, W32i, W8i, W16i, W64i, if_ps, if_ng, and_tr, fil_n1, fil_in, fil_out, le_tt, le_ff, lt_tt, lt_ff, eq_tt, eq_ff]))
theorem pA_ns {f : F} {c m sc : Int} (v : fval 1 f) (c0 : 0 ≤ c) (c1 : c < fsize f) (h : pA f c m sc) : ns f c = 4 := by
  obtain ⟨h1, h2, h3, h4⟩ := h
  have n3 : nc f c = 3 := by have := h1.2; omega
  have nk := nk_in v c0 c1 (Or.inr h1.1) n3
  have e : nch f c = 3 := by unfold nch; rw [if_neg (by have := h1.1; omega), if_pos (Or.inr h1.1), n3]
  have w := (wi_ok f 1 c v c0 c1 3 (by rw [e]; decide)).2.2.2 (by rw [e]; rfl)
  have a1 := (nW_of f 1 (c + 1) v (by omega) (by omega)).l1 (by have := h2.1; omega)
  have a2 := (nW_of f 1 (c + 2) v (by omega) (by omega)).l1 (by omega)
  have a3 := (nW_of f 1 (c + 3) v (by omega) (by omega)).l1 (by omega)
  simp only [wi] at w
  rw [a1, show c + 1 + 1 = c + 2 by omega, a2, show c + 2 + 1 = c + 3 by omega, a3] at w
  omega
/-- the last stage of a turn -/
theorem m_coC {S : Sto} {l m g0 k c pol nam lp ln : Int} (h1 : S 135 (c + 1) = pol) (h2 : S 135 (c + 2) = nam) (h3 : 0 < k → S 135 (c - 3) = lp ∧ S 135 (c - 2) = ln ∧ 3 ≤ c) (c0 : 0 ≤ c) (c1 : c + 2 < 200) (k0 : 0 ≤ k) (k1 : k < 1000) (Q : ZQ) : zG Cd 290 (Cd 290 185) [(34, 34), (0, l), (0, m), (0, g0), (0, k), (0, c)] [(0, 1)] S Q = zG Cd 290 (Cd 290 26) [(34, 34), (0, l), (0, m), (0, if k = 0 ∨ (lp < pol ∨ lp = pol ∧ zuns ln < zuns nam) then 1 else 0), (0, k + 1), (0, c)] [] S Q := by
  by_cases q : k = 0
  · rw [if_pos (Or.inl q)]
    subst q
    iterate 14 (try (simp only [M290]; simp (disch := omega) only [bcd, true_and, and_true, and_self, if_true, if_false, ite_true, ite_false, reduceIte, Int.reduceEq, Int.reduceNe, Int.reduceLT, Int.reduceLE, Int.reduceAdd, Int.reduceSub, Int.reduceMul, Int.reduceNeg, Int.reduceMod, Int.reduceDiv, Int.reduceToNat, Nat.reduceAdd, Nat.reduceLeDiff, List.length_cons, List.length_nil, not_false_eq_true, not_true_eq_false, ne_eq, or_false, false_or, or_self, false_and, and_false, or_true, true_or, ite_self, Int.add_sub_cancel, Int.sub_add_cancel, b_lc1, b_lc2, b_lc3, b_lc4, b_lc5, up_eq, up_ei, up_n1, up_n2, W32i, W8i, W16i, W64i, if_ps, if_ng, and_tr, fil_n1, fil_in, fil_out, le_tt, le_ff, lt_tt, lt_ff, eq_tt, eq_ff]))
  · obtain ⟨h4, h5, h6⟩ := h3 (by omega)
    by_cases r : lp < pol ∨ lp = pol ∧ zuns ln < zuns nam
    · rw [if_pos (Or.inr r)]
      have b := fun Q => m_before S Q lp ln pol nam
      simp only [if_pos r] at b
      clear r
      iterate 14 (try (simp only [M290]; simp (disch := omega) only [bcd, true_and, and_true, and_self, if_true, if_false, ite_true, ite_false, reduceIte, Int.reduceEq, Int.reduceNe, Int.reduceLT, Int.reduceLE, Int.reduceAdd, Int.reduceSub, Int.reduceMul, Int.reduceNeg, Int.reduceMod, Int.reduceDiv, Int.reduceToNat, Nat.reduceAdd, Nat.reduceLeDiff, List.length_cons, List.length_nil, not_false_eq_true, not_true_eq_false, ne_eq, or_false, false_or, or_self, false_and, and_false, or_true, true_or, ite_self, Int.add_sub_cancel, Int.sub_add_cancel, b_lc1, b_lc2, b_lc3, b_lc4, b_lc5, up_eq, up_ei, up_n1, up_n2, W32i, W8i, W16i, W64i, if_ps, if_ng, and_tr, fil_n1, fil_in, fil_out, le_tt, le_ff, lt_tt, lt_ff, eq_tt, eq_ff, b, h1, h2, h4, h5]))
    · rw [if_neg (fun x => x.elim q r)]
      have b := fun Q => m_before S Q lp ln pol nam
      simp only [if_neg r] at b
      clear r
      iterate 14 (try (simp only [M290]; simp (disch := omega) only [bcd, true_and, and_true, and_self, if_true, if_false, ite_true, ite_false, reduceIte, Int.reduceEq, Int.reduceNe, Int.reduceLT, Int.reduceLE, Int.reduceAdd, Int.reduceSub, Int.reduceMul, Int.reduceNeg, Int.reduceMod, Int.reduceDiv, Int.reduceToNat, Nat.reduceAdd, Nat.reduceLeDiff, List.length_cons, List.length_nil, not_false_eq_true, not_true_eq_false, ne_eq, or_false, false_or, or_self, false_and, and_false, or_true, true_or, ite_self, Int.add_sub_cancel, Int.sub_add_cancel, b_lc1, b_lc2, b_lc3, b_lc4, b_lc5, up_eq, up_ei, up_n1, up_n2, W32i, W8i, W16i, W64i, if_ps, if_ng, and_tr, fil_n1, fil_in, fil_out, le_tt, le_ff, lt_tt, lt_ff, eq_tt, eq_ff, b, h1, h2, h4, h5]))
theorem m_coC0 {S : Sto} {l m g0 k c : Int} (k0 : 0 ≤ k) (k1 : k < 1000) (Q : ZQ) : zG Cd 290 (Cd 290 185) [(34, 34), (0, l), (0, m), (0, g0), (0, k), (0, c)] [(0, 0)] S Q = zG Cd 290 (Cd 290 26) [(34, 34), (0, l), (0, m), (0, 0), (0, k + 1), (0, c)] [] S Q := by
  iterate 14 (try (simp only [M290]; simp (disch := omega) only [bcd, true_and, and_true, and_self, if_true, if_false, ite_true, ite_false, reduceIte, Int.reduceEq, Int.reduceNe, Int.reduceLT, Int.reduceLE, Int.reduceAdd, Int.reduceSub, Int.reduceMul, Int.reduceNeg, Int.reduceMod, Int.reduceDiv, Int.reduceToNat, Nat.reduceAdd, Nat.reduceLeDiff, List.length_cons, List.length_nil, not_false_eq_true, not_true_eq_false, ne_eq, or_false, false_or, or_self, false_and, and_false, or_true, true_or, ite_self, Int.add_sub_cancel, Int.sub_add_cancel, b_lc1, b_lc2, b_lc3, b_lc4, b_lc5, up_eq, up_ei, up_n1, up_n2, W32i, W8i, W16i, W64i, if_ps, if_ng, and_tr, fil_n1, fil_in, fil_out, le_tt, le_ff, lt_tt, lt_ff, eq_tt, eq_ff]))
theorem m_coB {S : Sto} {l m g0 k c pol nam amt lp ln : Int} (h1 : S 135 (c + 1) = pol) (h2 : S 135 (c + 2) = nam) (ha : S 135 (c + 3) = amt) (h3 : 0 < k → S 135 (c - 3) = lp ∧ S 135 (c - 2) = ln ∧ 3 ≤ c) (c0 : 0 ≤ c) (c1 : c + 3 < 200) (k0 : 0 ≤ k) (k1 : k < 1000) (Q : ZQ) : zG Cd 290 (Cd 290 133) [(34, 34), (0, l), (0, m), (0, g0), (0, k), (0, c)] [(0, 1)] S Q = zG Cd 290 (Cd 290 26) [(34, 34), (0, l), (0, m), (0, if ((0 < pol ∨ nam = 0) ∧ amt ≠ 0) ∧ (k = 0 ∨ (lp < pol ∨ lp = pol ∧ zuns ln < zuns nam)) then 1 else 0), (0, k + 1), (0, c)] [] S Q := by
  have C := m_coC (l := l) (m := m) (g0 := 1) h1 h2 h3 c0 (by omega) k0 k1 Q
  have C0 := m_coC0 (S := S) (l := l) (m := m) (g0 := 1) (c := c) k0 k1 Q
  clear h3
  by_cases a : (0 < pol ∨ nam = 0) ∧ amt ≠ 0
  · have e : (if ((0 < pol ∨ nam = 0) ∧ amt ≠ 0) ∧ (k = 0 ∨ (lp < pol ∨ lp = pol ∧ zuns ln < zuns nam)) then (1 : Int) else 0) = if k = 0 ∨ (lp < pol ∨ lp = pol ∧ zuns ln < zuns nam) then 1 else 0 := by
      by_cases q : k = 0 ∨ (lp < pol ∨ lp = pol ∧ zuns ln < zuns nam)
      · rw [if_pos ⟨a, q⟩, if_pos q]
      · rw [if_neg (fun x => q x.2), if_neg q]
    rw [e, ← C]
    generalize hX : zG Cd 290 (Cd 290 185) [(34, 34), (0, l), (0, m), (0, 1), (0, k), (0, c)] [(0, 1)] S Q = X
    by_cases d : 0 < pol <;> iterate 14 (try (simp only [M290]; simp (disch := omega) only [bcd, true_and, and_true, and_self, if_true, if_false, ite_true, ite_false, reduceIte, Int.reduceEq, Int.reduceNe, Int.reduceLT, Int.reduceLE, Int.reduceAdd, Int.reduceSub, Int.reduceMul, Int.reduceNeg, Int.reduceMod, Int.reduceDiv, Int.reduceToNat, Nat.reduceAdd, Nat.reduceLeDiff, List.length_cons, List.length_nil, not_false_eq_true, not_true_eq_false, ne_eq, or_false, false_or, or_self, false_and, and_false, or_true, true_or, ite_self, Int.add_sub_cancel, Int.sub_add_cancel, b_lc1, b_lc2, b_lc3, b_lc4, b_lc5, up_eq, up_ei, up_n1, up_n2, W32i, W8i, W16i, W64i, if_ps, if_ng, and_tr, fil_n1, fil_in, fil_out, le_tt, le_ff, lt_tt, lt_ff, eq_tt, eq_ff, h1, h2, ha, hX]))
  · rw [if_neg (fun x => a x.1)]
    rw [← C0]
    generalize hX : zG Cd 290 (Cd 290 185) [(34, 34), (0, l), (0, m), (0, 1), (0, k), (0, c)] [(0, 0)] S Q = X
    by_cases d : 0 < pol
    · iterate 14 (try (simp only [M290]; simp (disch := omega) only [bcd, true_and, and_true, and_self, if_true, if_false, ite_true, ite_false, reduceIte, Int.reduceEq, Int.reduceNe, Int.reduceLT, Int.reduceLE, Int.reduceAdd, Int.reduceSub, Int.reduceMul, Int.reduceNeg, Int.reduceMod, Int.reduceDiv, Int.reduceToNat, Nat.reduceAdd, Nat.reduceLeDiff, List.length_cons, List.length_nil, not_false_eq_true, not_true_eq_false, ne_eq, or_false, false_or, or_self, false_and, and_false, or_true, true_or, ite_self, Int.add_sub_cancel, Int.sub_add_cancel, b_lc1, b_lc2, b_lc3, b_lc4, b_lc5, up_eq, up_ei, up_n1, up_n2, W32i, W8i, W16i, W64i, if_ps, if_ng, and_tr, fil_n1, fil_in, fil_out, le_tt, le_ff, lt_tt, lt_ff, eq_tt, eq_ff, h1, h2, ha, hX]))
    · by_cases d2 : nam = 0 <;> iterate 14 (try (simp only [M290]; simp (disch := omega) only [bcd, true_and, and_true, and_self, if_true, if_false, ite_true, ite_false, reduceIte, Int.reduceEq, Int.reduceNe, Int.reduceLT, Int.reduceLE, Int.reduceAdd, Int.reduceSub, Int.reduceMul, Int.reduceNeg, Int.reduceMod, Int.reduceDiv, Int.reduceToNat, Nat.reduceAdd, Nat.reduceLeDiff, List.length_cons, List.length_nil, not_false_eq_true, not_true_eq_false, ne_eq, or_false, false_or, or_self, false_and, and_false, or_true, true_or, ite_self, Int.add_sub_cancel, Int.sub_add_cancel, b_lc1, b_lc2, b_lc3, b_lc4, b_lc5, up_eq, up_ei, up_n1, up_n2, W32i, W8i, W16i, W64i, if_ps, if_ng, and_tr, fil_n1, fil_in, fil_out, le_tt, le_ff, lt_tt, lt_ff, eq_tt, eq_ff, h1, h2, ha, hX]))
theorem m_coB0 {S : Sto} {l m g0 k c : Int} (k0 : 0 ≤ k) (k1 : k < 1000) (Q : ZQ) : zG Cd 290 (Cd 290 133) [(34, 34), (0, l), (0, m), (0, g0), (0, k), (0, c)] [(0, 0)] S Q = zG Cd 290 (Cd 290 26) [(34, 34), (0, l), (0, m), (0, 0), (0, k + 1), (0, c)] [] S Q := by
  rw [← m_coC0 (S := S) (l := l) (m := m) (g0 := 0) (c := c) k0 k1 Q]
  generalize hX : zG Cd 290 (Cd 290 185) [(34, 34), (0, l), (0, m), (0, 0), (0, k), (0, c)] [(0, 0)] S Q = X
  iterate 14 (try (simp only [M290]; simp (disch := omega) only [bcd, true_and, and_true, and_self, if_true, if_false, ite_true, ite_false, reduceIte, Int.reduceEq, Int.reduceNe, Int.reduceLT, Int.reduceLE, Int.reduceAdd, Int.reduceSub, Int.reduceMul, Int.reduceNeg, Int.reduceMod, Int.reduceDiv, Int.reduceToNat, Nat.reduceAdd, Nat.reduceLeDiff, List.length_cons, List.length_nil, not_false_eq_true, not_true_eq_false, ne_eq, or_false, false_or, or_self, false_and, and_false, or_true, true_or, ite_self, Int.add_sub_cancel, Int.sub_add_cancel, b_lc1, b_lc2, b_lc3, b_lc4, b_lc5, up_eq, up_ei, up_n1, up_n2, W32i, W8i, W16i, W64i, if_ps, if_ng, and_tr, fil_n1, fil_in, fil_out, le_tt, le_ff, lt_tt, lt_ff, eq_tt, eq_ff, hX]))
