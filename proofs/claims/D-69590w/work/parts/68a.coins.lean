-- uses: 67
theorem x_cmpU (S : Sto) (Q : ZQ) (a b : Int) : zCall Cd 407 4 [(1, a), (1, b)] S Q = Q S (0, if zuns a < zuns b then -1 else if zuns a = zuns b then 0 else 1) := by
  unfold zuns
  by_cases c : w64 (a + -9223372036854775808) < w64 (b + -9223372036854775808)
  · simp (disch := omega) only [bcd, true_and, and_true, and_self, if_true, if_false, ite_true, ite_false, reduceIte, Int.reduceEq, Int.reduceNe, Int.reduceLT, Int.reduceLE, Int.reduceAdd, Int.reduceSub, Int.reduceMul, Int.reduceNeg, Int.reduceMod, Int.reduceDiv, Int.reduceToNat, Nat.reduceAdd, Nat.reduceLeDiff, List.length_cons, List.length_nil, not_false_eq_true, not_true_eq_false, ne_eq, or_false, false_or, or_self, false_and, and_false, or_true, true_or, ite_self, Int.add_sub_cancel, Int.sub_add_cancel, b_lc1, b_lc2, b_lc3, b_lc4, b_lc5, up_eq, up_ei, up_n1, up_n2, W32i, W8i, W16i, W64i, if_ps, if_ng, and_tr, fil_n1, fil_in, fil_out, le_tt, le_ff, lt_tt, lt_ff, eq_tt, eq_ff, M407, M408, c]
  · by_cases d : w64 (a + -9223372036854775808) = w64 (b + -9223372036854775808) <;> simp (disch := omega) only [bcd, true_and, and_true, and_self, if_true, if_false, ite_true, ite_false, reduceIte, Int.reduceEq, Int.reduceNe, Int.reduceLT, Int.reduceLE, Int.reduceAdd, Int.reduceSub, Int.reduceMul, Int.reduceNeg, Int.reduceMod, Int.reduceDiv, Int.reduceToNat, Nat.reduceAdd, Nat.reduceLeDiff, List.length_cons, List.length_nil, not_false_eq_true, not_true_eq_false, ne_eq, or_false, false_or, or_self, false_and, and_false, or_true, true_or, ite_self, Int.add_sub_cancel, Int.sub_add_cancel, b_lc1, b_lc2, b_lc3, b_lc4, b_lc5, up_eq, up_ei, up_n1, up_n2, W32i, W8i, W16i, W64i, if_ps, if_ng, and_tr, fil_n1, fil_in, fil_out, le_tt, le_ff, lt_tt, lt_ff, eq_tt, eq_ff, M407, M408, c, d]
/-- a coin is read -/
def xco (S : Sto) (f : F) (c : Int) : Sto := up (up (up S 33 4 (nt f (c + 1))) 33 5 (nt f (c + 2))) 33 6 (nt f (c + 3))
theorem XD.co {S : Sto} {f : F} (h : XD S f) (a b c : Int) : XD (up (up (up S 33 4 a) 33 5 b) 33 6 c) f := by
  obtain ⟨h_v, h_sz, h_kd, h_va, h_nu, h_ss⟩ := h
  apply XD.mk1 <;> first | assumption | (simp (disch := omega) only [true_and, and_true, and_self, if_true, if_false, ite_true, ite_false, reduceIte, Int.reduceEq, Int.reduceNe, Int.reduceLT, Int.reduceLE, Int.reduceAdd, Int.reduceSub, Int.reduceMul, Int.reduceNeg, Int.reduceMod, Int.reduceDiv, Int.reduceToNat, Nat.reduceAdd, Nat.reduceLeDiff, List.length_cons, List.length_nil, not_false_eq_true, not_true_eq_false, ne_eq, or_false, false_or, or_self, false_and, and_false, or_true, true_or, ite_self, Int.add_sub_cancel, Int.sub_add_cancel, b_lc1, b_lc2, b_lc3, b_lc4, b_lc5, up_eq, up_ei, up_n1, up_n2, W32i, W8i, W16i, W64i, if_ps, if_ng, and_tr, fil_n1, fil_in, fil_out]; assumption)
theorem x_coin1 {S : Sto} {f : F} (h : XD S f) (l : Int) (i : Nat) (l0 : 0 ≤ l) (l1 : l < fsize f) (h2 : nf f l = 2) (hi : (i : Int) < nc f l) (c3 : wi f l i + 3 < fsize f) (i1 : nf f (wi f l i + 1) = 3) (i2 : nf f (wi f l i + 2) = 3) (i3 : nf f (wi f l i + 3) = 3) (Q : ZQ) : zCall Cd 250 4 [(33, 33), (0, l), (0, (i : Int))] S Q = Q (xco S f (wi f l i)) (0, 1) := by
  obtain ⟨a1, a2, a3⟩ := wi_l h.v l0 l1 h2 i hi
  have cb := nc_b h.v h.sz l0 l1 h2
  have sz := h.sz
  have wt := fun Q => x_within h l (i : Int) l0 l1 (by omega) (by omega) Q
  rw [show ((i : Int)).toNat = i by omega] at wt
  have v1 := fun Q => x_value h (wi f l i + 1) (by omega) (by omega) Q
  simp only [if_pos i1] at v1
  have hA : XD (up S 33 4 (nt f (wi f l i + 1))) f := by
    have h' := h
    obtain ⟨h_v, h_sz, h_kd, h_va, h_nu, h_ss⟩ := h'
    apply XD.mk1 <;> first | assumption | (simp (disch := omega) only [true_and, and_true, and_self, if_true, if_false, ite_true, ite_false, reduceIte, Int.reduceEq, Int.reduceNe, Int.reduceLT, Int.reduceLE, Int.reduceAdd, Int.reduceSub, Int.reduceMul, Int.reduceNeg, Int.reduceMod, Int.reduceDiv, Int.reduceToNat, Nat.reduceAdd, Nat.reduceLeDiff, List.length_cons, List.length_nil, not_false_eq_true, not_true_eq_false, ne_eq, or_false, false_or, or_self, false_and, and_false, or_true, true_or, ite_self, Int.add_sub_cancel, Int.sub_add_cancel, b_lc1, b_lc2, b_lc3, b_lc4, b_lc5, up_eq, up_ei, up_n1, up_n2, W32i, W8i, W16i, W64i, if_ps, if_ng, and_tr, fil_n1, fil_in, fil_out]; assumption)
  have v2 := fun Q => x_value hA (wi f l i + 2) (by omega) (by omega) Q
  simp only [if_pos i2] at v2
  have hC : XD (up (up S 33 4 (nt f (wi f l i + 1))) 33 5 (nt f (wi f l i + 2))) f := by
    have h' := h
    obtain ⟨h_v, h_sz, h_kd, h_va, h_nu, h_ss⟩ := h'
    apply XD.mk1 <;> first | assumption | (simp (disch := omega) only [true_and, and_true, and_self, if_true, if_false, ite_true, ite_false, reduceIte, Int.reduceEq, Int.reduceNe, Int.reduceLT, Int.reduceLE, Int.reduceAdd, Int.reduceSub, Int.reduceMul, Int.reduceNeg, Int.reduceMod, Int.reduceDiv, Int.reduceToNat, Nat.reduceAdd, Nat.reduceLeDiff, List.length_cons, List.length_nil, not_false_eq_true, not_true_eq_false, ne_eq, or_false, false_or, or_self, false_and, and_false, or_true, true_or, ite_self, Int.add_sub_cancel, Int.sub_add_cancel, b_lc1, b_lc2, b_lc3, b_lc4, b_lc5, up_eq, up_ei, up_n1, up_n2, W32i, W8i, W16i, W64i, if_ps, if_ng, and_tr, fil_n1, fil_in, fil_out]; assumption)
  have v3 := fun Q => x_value hC (wi f l i + 3) (by omega) (by omega) Q
  simp only [if_pos i3] at v3
  unfold xco
  simp (disch := omega) only [bcd, true_and, and_true, and_self, if_true, if_false, ite_true, ite_false, reduceIte, Int.reduceEq, Int.reduceNe, Int.reduceLT, Int.reduceLE, Int.reduceAdd, Int.reduceSub, Int.reduceMul, Int.reduceNeg, Int.reduceMod, Int.reduceDiv, Int.reduceToNat, Nat.reduceAdd, Nat.reduceLeDiff, List.length_cons, List.length_nil, not_false_eq_true, not_true_eq_false, ne_eq, or_false, false_or, or_self, false_and, and_false, or_true, true_or, ite_self, Int.add_sub_cancel, Int.sub_add_cancel, b_lc1, b_lc2, b_lc3, b_lc4, b_lc5, up_eq, up_ei, up_n1, up_n2, W32i, W8i, W16i, W64i, if_ps, if_ng, and_tr, fil_n1, fil_in, fil_out, le_tt, le_ff, lt_tt, lt_ff, eq_tt, eq_ff, M250, wt, v1, v2, v3]
