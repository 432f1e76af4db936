-- uses: 72
theorem x_tagof (S : Sto) (Q : ZQ) (n : Int) (h : 0 ≤ n ∧ n ≤ 127) : zCall Cd 406 1 [(0, n)] S Q = Q S (1, ztag n) := by
  unfold ztag
  by_cases q : n < 7 <;> simp (disch := omega) only [bcd, true_and, and_true, and_self, if_true, if_false, ite_true, ite_false, reduceIte, Int.reduceEq, Int.reduceNe, Int.reduceLT, Int.reduceLE, Int.reduceAdd, Int.reduceSub, Int.reduceMul, Int.reduceNeg, Int.reduceMod, Int.reduceDiv, Int.reduceToNat, Nat.reduceAdd, Nat.reduceLeDiff, List.length_cons, List.length_nil, not_false_eq_true, not_true_eq_false, ne_eq, or_false, false_or, or_self, false_and, and_false, or_true, true_or, ite_self, Int.add_sub_cancel, Int.sub_add_cancel, b_lc1, b_lc2, b_lc3, b_lc4, b_lc5, up_eq, up_ei, up_n1, up_n2, W32i, W8i, W16i, W64i, if_ps, if_ng, and_tr, fil_n1, fil_in, fil_out, le_tt, le_ff, lt_tt, lt_ff, eq_tt, eq_ff, M406]
theorem zwide_b (v : Int) : zwide v ≤ 8 := by unfold zwide; (repeat' split) <;> omega
theorem nc_all {f : F} {n : Int} (v : fval 1 f) (sz : fsize f ≤ 200) (n0 : 0 ≤ n) (n1 : n < fsize f) : 0 ≤ nc f n ∧ nc f n ≤ 200 := by
  have w := nW_of f 1 n v n0 n1
  have c0 := w.c0
  have f0 := w.f0
  have s2 := w.s2
  by_cases q4 : nf f n = 4
  · have := (w.t4 q4).2; omega
  · have c1 := w.c1 q4
    unfold nch at c1
    by_cases q1 : nf f n = 1
    · rw [if_pos q1] at c1; omega
    · rw [if_neg q1] at c1
      by_cases q3 : nf f n = 3
      · have := (w.t3 q3).2; omega
      · rw [if_pos (by omega)] at c1; omega
theorem x_lenOf {S : Sto} {f : F} (h : XD S f) (n : Int) (n0 : 0 ≤ n) (n1 : n < fsize f) (Q : ZQ) : zCall Cd 175 4 [(25, 25), (0, n)] S Q = Q S (0, hlen (nf f n) (nt f n) (nc f n)) := by
  have w := nW_of f 1 n h.v n0 n1
  have cb := nc_all h.v h.sz n0 n1
  have sz := h.sz
  have e1 := h.kd n n0 n1
  have e2 := h.va n n0 n1
  have e3 := h.nu n n0 n1
  have f0 := w.f0
  have z : nf f n = 0 ∨ nf f n = 1 ∨ nf f n = 2 ∨ nf f n = 3 ∨ nf f n = 4 := by omega
  have wc := fun Q => x_wide S Q (nc f n) (by unfold zLong; omega)
  have bc := zwide_b (nc f n)
  unfold hlen
  rcases z with q | q | q | q | q
  · have t := w.t0 q
    rw [q] at e1 e2 e3
    have e1 : S 98 n = 6 := e1
    have e2 : S 99 n = nc f n := e2
    have e3 : S 100 n = nt f n := e3
    have tb : 121 ≤ ztag (nt f n) ∧ ztag (nt f n) ≤ 1400 := by unfold ztag; split <;> omega
    have wt := fun Q => x_wide S Q (ztag (nt f n)) (by unfold zLong; omega)
    have bt := zwide_b (ztag (nt f n))
    have tg := fun Q => x_tagof S Q (nt f n) t
    rw [if_neg (by omega), if_neg (by omega), if_pos q]
    simp (disch := omega) only [bcd, true_and, and_true, and_self, if_true, if_false, ite_true, ite_false, reduceIte, Int.reduceEq, Int.reduceNe, Int.reduceLT, Int.reduceLE, Int.reduceAdd, Int.reduceSub, Int.reduceMul, Int.reduceNeg, Int.reduceMod, Int.reduceDiv, Int.reduceToNat, Nat.reduceAdd, Nat.reduceLeDiff, List.length_cons, List.length_nil, not_false_eq_true, not_true_eq_false, ne_eq, or_false, false_or, or_self, false_and, and_false, or_true, true_or, ite_self, Int.add_sub_cancel, Int.sub_add_cancel, b_lc1, b_lc2, b_lc3, b_lc4, b_lc5, up_eq, up_ei, up_n1, up_n2, W32i, W8i, W16i, W64i, if_ps, if_ng, and_tr, fil_n1, fil_in, fil_out, le_tt, le_ff, lt_tt, lt_ff, eq_tt, eq_ff, M175, e1, e2, e3, zlook, wc, wt, tg]
    congr 2
    omega
  · rw [q] at e1 e2
    have e1 : S 98 n = 5 := e1
    have e2 : S 99 n = nc f n := e2
    rw [if_neg (by omega), if_neg (by omega), if_neg (by omega)]
    simp (disch := omega) only [bcd, true_and, and_true, and_self, if_true, if_false, ite_true, ite_false, reduceIte, Int.reduceEq, Int.reduceNe, Int.reduceLT, Int.reduceLE, Int.reduceAdd, Int.reduceSub, Int.reduceMul, Int.reduceNeg, Int.reduceMod, Int.reduceDiv, Int.reduceToNat, Nat.reduceAdd, Nat.reduceLeDiff, List.length_cons, List.length_nil, not_false_eq_true, not_true_eq_false, ne_eq, or_false, false_or, or_self, false_and, and_false, or_true, true_or, ite_self, Int.add_sub_cancel, Int.sub_add_cancel, b_lc1, b_lc2, b_lc3, b_lc4, b_lc5, up_eq, up_ei, up_n1, up_n2, W32i, W8i, W16i, W64i, if_ps, if_ng, and_tr, fil_n1, fil_in, fil_out, le_tt, le_ff, lt_tt, lt_ff, eq_tt, eq_ff, M175, e1, e2, zlook, wc]
  · rw [q] at e1 e2
    have e1 : S 98 n = 4 := e1
    have e2 : S 99 n = nc f n := e2
    rw [if_neg (by omega), if_neg (by omega), if_neg (by omega)]
    simp (disch := omega) only [bcd, true_and, and_true, and_self, if_true, if_false, ite_true, ite_false, reduceIte, Int.reduceEq, Int.reduceNe, Int.reduceLT, Int.reduceLE, Int.reduceAdd, Int.reduceSub, Int.reduceMul, Int.reduceNeg, Int.reduceMod, Int.reduceDiv, Int.reduceToNat, Nat.reduceAdd, Nat.reduceLeDiff, List.length_cons, List.length_nil, not_false_eq_true, not_true_eq_false, ne_eq, or_false, false_or, or_self, false_and, and_false, or_true, true_or, ite_self, Int.add_sub_cancel, Int.sub_add_cancel, b_lc1, b_lc2, b_lc3, b_lc4, b_lc5, up_eq, up_ei, up_n1, up_n2, W32i, W8i, W16i, W64i, if_ps, if_ng, and_tr, fil_n1, fil_in, fil_out, le_tt, le_ff, lt_tt, lt_ff, eq_tt, eq_ff, M175, e1, e2, zlook, wc]
  · have t := (w.t3 q).1
    unfold zLong at t
    rw [q] at e1 e2
    have e1 : S 98 n = 0 := e1
    have e2 : S 99 n = nt f n := e2
    rw [if_pos q]
    by_cases s : nt f n < 0
    · have wn := fun Q => x_wide S Q (-1 - nt f n) (by unfold zLong; omega)
      have bn := zwide_b (-1 - nt f n)
      rw [if_pos s]
      simp (disch := omega) only [bcd, true_and, and_true, and_self, if_true, if_false, ite_true, ite_false, reduceIte, Int.reduceEq, Int.reduceNe, Int.reduceLT, Int.reduceLE, Int.reduceAdd, Int.reduceSub, Int.reduceMul, Int.reduceNeg, Int.reduceMod, Int.reduceDiv, Int.reduceToNat, Nat.reduceAdd, Nat.reduceLeDiff, List.length_cons, List.length_nil, not_false_eq_true, not_true_eq_false, ne_eq, or_false, false_or, or_self, false_and, and_false, or_true, true_or, ite_self, Int.add_sub_cancel, Int.sub_add_cancel, b_lc1, b_lc2, b_lc3, b_lc4, b_lc5, up_eq, up_ei, up_n1, up_n2, W32i, W8i, W16i, W64i, if_ps, if_ng, and_tr, fil_n1, fil_in, fil_out, le_tt, le_ff, lt_tt, lt_ff, eq_tt, eq_ff, M175, e1, e2, zlook, wn]
    · have wn := fun Q => x_wide S Q (nt f n) (by unfold zLong; omega)
      have bn := zwide_b (nt f n)
      rw [if_neg s]
      simp (disch := omega) only [bcd, true_and, and_true, and_self, if_true, if_false, ite_true, ite_false, reduceIte, Int.reduceEq, Int.reduceNe, Int.reduceLT, Int.reduceLE, Int.reduceAdd, Int.reduceSub, Int.reduceMul, Int.reduceNeg, Int.reduceMod, Int.reduceDiv, Int.reduceToNat, Nat.reduceAdd, Nat.reduceLeDiff, List.length_cons, List.length_nil, not_false_eq_true, not_true_eq_false, ne_eq, or_false, false_or, or_self, false_and, and_false, or_true, true_or, ite_self, Int.add_sub_cancel, Int.sub_add_cancel, b_lc1, b_lc2, b_lc3, b_lc4, b_lc5, up_eq, up_ei, up_n1, up_n2, W32i, W8i, W16i, W64i, if_ps, if_ng, and_tr, fil_n1, fil_in, fil_out, le_tt, le_ff, lt_tt, lt_ff, eq_tt, eq_ff, M175, e1, e2, zlook, wn]
  · rw [q] at e1 e2
    have e1 : S 98 n = 2 := e1
    have e2 : S 99 n = nc f n := e2
    rw [if_neg (by omega), if_pos q]
    simp (disch := omega) only [bcd, true_and, and_true, and_self, if_true, if_false, ite_true, ite_false, reduceIte, Int.reduceEq, Int.reduceNe, Int.reduceLT, Int.reduceLE, Int.reduceAdd, Int.reduceSub, Int.reduceMul, Int.reduceNeg, Int.reduceMod, Int.reduceDiv, Int.reduceToNat, Nat.reduceAdd, Nat.reduceLeDiff, List.length_cons, List.length_nil, not_false_eq_true, not_true_eq_false, ne_eq, or_false, false_or, or_self, false_and, and_false, or_true, true_or, ite_self, Int.add_sub_cancel, Int.sub_add_cancel, b_lc1, b_lc2, b_lc3, b_lc4, b_lc5, up_eq, up_ei, up_n1, up_n2, W32i, W8i, W16i, W64i, if_ps, if_ng, and_tr, fil_n1, fil_in, fil_out, le_tt, le_ff, lt_tt, lt_ff, eq_tt, eq_ff, M175, e1, e2, zlook, wc]
theorem hlen_b {f : F} {n : Int} (v : fval 1 f) (n0 : 0 ≤ n) (n1 : n < fsize f) : 1 ≤ hlen (nf f n) (nt f n) (nc f n) ∧ hlen (nf f n) (nt f n) (nc f n) ≤ 100 := by
  have w := nW_of f 1 n v n0 n1
  have c0 := w.c0
  have b1 := zwide_b (nc f n)
  have b2 := zwide_b (ztag (nt f n))
  have b3 := zwide_b (if nt f n < 0 then -1 - nt f n else nt f n)
  unfold hlen
  by_cases q3 : nf f n = 3
  · rw [if_pos q3]; omega
  · rw [if_neg q3]
    by_cases q4 : nf f n = 4
    · have := (w.t4 q4).2; rw [if_pos q4]; omega
    · rw [if_neg q4]; split <;> omega
theorem fhp_m {f : F} (v : fval 1 f) {n : Int} (n0 : 0 ≤ n) : ∀ c : Nat, n + c ≤ fsize f → fhp f n + c ≤ fhp f (n + c) ∧ fhp f (n + c) ≤ fhp f n + 100 * c := by
  intro c
  induction c with
  | zero => intro _; simp
  | succ c ih =>
    intro h
    have a := ih (by omega)
    have b := fhp_s f 1 v (n + c) (by omega) (by omega)
    have d := hlen_b v (n := n + c) (by omega) (by omega)
    rw [show n + ((c + 1 : Nat) : Int) = n + c + 1 by omega, b]
    omega
theorem x_lenPart {S : Sto} {f : F} (h : XD S f) (n : Int) (n0 : 0 ≤ n) (n1 : n < fsize f) (Q : ZQ) : zCall Cd 176 4 [(25, 25), (0, n)] S Q = Q S (0, fhp f (n + ns f n) - fhp f n) := by
  have w := nW_of f 1 n h.v n0 n1
  have s1 := w.s1
  have s2 := w.s2
  have sz := h.sz
  have ss := h.ss n n0 n1
  have lp : ∀ (c k : Nat), (k : Int) + c = ns f n → zG Cd 176 (Cd 176 4) [(25, 25), (0, n), (0, fhp f (n + k) - fhp f n), (0, n + (k : Int))] [] S Q = Q S (0, fhp f (n + ns f n) - fhp f n) := by
    intro c
    induction c with
    | zero =>
      intro k hk
      rw [show (k : Int) = ns f n by omega, L176_4]
      simp (disch := omega) only [bcd, true_and, and_true, and_self, if_true, if_false, ite_true, ite_false, reduceIte, Int.reduceEq, Int.reduceNe, Int.reduceLT, Int.reduceLE, Int.reduceAdd, Int.reduceSub, Int.reduceMul, Int.reduceNeg, Int.reduceMod, Int.reduceDiv, Int.reduceToNat, Nat.reduceAdd, Nat.reduceLeDiff, List.length_cons, List.length_nil, not_false_eq_true, not_true_eq_false, ne_eq, or_false, false_or, or_self, false_and, and_false, or_true, true_or, ite_self, Int.add_sub_cancel, Int.sub_add_cancel, b_lc1, b_lc2, b_lc3, b_lc4, b_lc5, up_eq, up_ei, up_n1, up_n2, W32i, W8i, W16i, W64i, if_ps, if_ng, and_tr, fil_n1, fil_in, fil_out, le_tt, le_ff, lt_tt, lt_ff, eq_tt, eq_ff, M176, ss]
    | succ c ih =>
      intro k hk
      have I := ih (k + 1) (by omega)
      have b := fhp_s f 1 h.v (n + k) (by omega) (by omega)
      have d := hlen_b h.v (n := n + k) (by omega) (by omega)
      have m := fhp_m h.v n0 k (by omega)
      have lo := fun Q => x_lenOf h (n + k) (by omega) (by omega) Q
      rw [show n + ((k + 1 : Nat) : Int) = n + k + 1 by omega, b] at I
      rw [L176_4]
      simp (disch := omega) only [bcd, true_and, and_true, and_self, if_true, if_false, ite_true, ite_false, reduceIte, Int.reduceEq, Int.reduceNe, Int.reduceLT, Int.reduceLE, Int.reduceAdd, Int.reduceSub, Int.reduceMul, Int.reduceNeg, Int.reduceMod, Int.reduceDiv, Int.reduceToNat, Nat.reduceAdd, Nat.reduceLeDiff, List.length_cons, List.length_nil, not_false_eq_true, not_true_eq_false, ne_eq, or_false, false_or, or_self, false_and, and_false, or_true, true_or, ite_self, Int.add_sub_cancel, Int.sub_add_cancel, b_lc1, b_lc2, b_lc3, b_lc4, b_lc5, up_eq, up_ei, up_n1, up_n2, W32i, W8i, W16i, W64i, if_ps, if_ng, and_tr, fil_n1, fil_in, fil_out, le_tt, le_ff, lt_tt, lt_ff, eq_tt, eq_ff, ss, lo]
      rw [← I]
      congr 5
      omega
  have L := lp (ns f n).toNat 0 (by omega)
  rw [show n + ((0 : Nat) : Int) = n by omega, Int.sub_self] at L
  rw [← L]
  simp (disch := omega) only [bcd, true_and, and_true, and_self, if_true, if_false, ite_true, ite_false, reduceIte, Int.reduceEq, Int.reduceNe, Int.reduceLT, Int.reduceLE, Int.reduceAdd, Int.reduceSub, Int.reduceMul, Int.reduceNeg, Int.reduceMod, Int.reduceDiv, Int.reduceToNat, Nat.reduceAdd, Nat.reduceLeDiff, List.length_cons, List.length_nil, not_false_eq_true, not_true_eq_false, ne_eq, or_false, false_or, or_self, false_and, and_false, or_true, true_or, ite_self, Int.add_sub_cancel, Int.sub_add_cancel, b_lc1, b_lc2, b_lc3, b_lc4, b_lc5, up_eq, up_ei, up_n1, up_n2, W32i, W8i, W16i, W64i, if_ps, if_ng, and_tr, fil_n1, fil_in, fil_out, le_tt, le_ff, lt_tt, lt_ff, eq_tt, eq_ff, M176]
