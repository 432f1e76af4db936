-- uses: 99e 99b
/-! M: signers, collateral, base amounts -/
theorem m_isSigned {S : Sto} {f : F} {sc : Int} {L : Led} (h : MT S f sc L) (n : Int) (n0 : 0 ≤ n) (n1 : n < L.n) (Q : ZQ) : zCall Cd 301 4 [(34, 34), (0, n)] S Q = Q S (0, zb1 (sgn L f n)) := by
  have t := h.t
  have nn := h.w.n
  have sz := t.sz
  have ad := h.l.ad n n0 n1
  have l7 := t.l7
  have a7 := t.fd 7 (by omega)
  have k7 : S 142 7 = w0 f 7 := h.s.fl 7 (by omega)
  have ct := h.d.ct (w0 f 7) (by omega) a7.2
  have lp : ∀ (c i : Nat) (b : Bool), (i : Int) + c = nc f (w0 f 7) → zG Cd 301 (Cd 301 20) [(34, 34), (0, n), (0, zb1 b), (0, (i : Int))] [] S Q = Q S (0, zb1 (b || zany (fun j => decide (nt f (wi f (w0 f 7) j) = L.ad n)) c i)) := by
    intro c
    induction c with
    | zero =>
      intro i b hi
      rw [zany, Bool.or_false, L301_20]
      cases b <;> simp only [zb1_t, zb1_f] <;> simp (disch := omega) only [bcd, true_and, and_true, and_self, if_true, if_false, ite_true, ite_false, reduceIte, Int.reduceEq, Int.reduceNe, Int.reduceLT, Int.reduceLE, Int.reduceAdd, Int.reduceSub, Int.reduceMul, Int.reduceNeg, Int.reduceMod, Int.reduceDiv, Int.reduceToNat, Nat.reduceAdd, Nat.reduceLeDiff, List.length_cons, List.length_nil, not_false_eq_true, not_true_eq_false, ne_eq, or_false, false_or, or_self, false_and, and_false, or_true, true_or, ite_self, Int.add_sub_cancel, Int.sub_add_cancel, b_lc1, b_lc2, b_lc3, b_lc4, b_lc5, up_eq, up_ei, up_n1, up_n2, W32i, W8i, W16i, W64i, if_ps, if_ng, and_tr, fil_n1, fil_in, fil_out, le_tt, le_ff, lt_tt, lt_ff, eq_tt, eq_ff, M301, k7, ct]
    | succ c ih =>
      intro i b hi
      have I := ih (i + 1) (b || decide (nt f (wi f (w0 f 7) i) = L.ad n)) (by omega)
      rw [show ((i + 1 : Nat) : Int) = (i : Int) + 1 by omega] at I
      have sw := t.sw i (by omega)
      have tg := h.d.tg (wi f (w0 f 7) i) (by omega) sw.2.1
      have tg' : S 135 (w0 f 7 + 1 + i) = nt f (wi f (w0 f 7) i) := by rw [← tg, sw.2.2.2]
      rw [zany, ← Bool.or_assoc, ← I]
      conv => lhs; rw [L301_20]
      by_cases q : nt f (wi f (w0 f 7) i) = L.ad n
      · rw [show decide (nt f (wi f (w0 f 7) i) = L.ad n) = true from decide_eq_true q, Bool.or_true]
        cases b <;> simp only [zb1_t, zb1_f] <;> simp (disch := omega) only [bcd, true_and, and_true, and_self, if_true, if_false, ite_true, ite_false, reduceIte, Int.reduceEq, Int.reduceNe, Int.reduceLT, Int.reduceLE, Int.reduceAdd, Int.reduceSub, Int.reduceMul, Int.reduceNeg, Int.reduceMod, Int.reduceDiv, Int.reduceToNat, Nat.reduceAdd, Nat.reduceLeDiff, List.length_cons, List.length_nil, not_false_eq_true, not_true_eq_false, ne_eq, or_false, false_or, or_self, false_and, and_false, or_true, true_or, ite_self, Int.add_sub_cancel, Int.sub_add_cancel, b_lc1, b_lc2, b_lc3, b_lc4, b_lc5, up_eq, up_ei, up_n1, up_n2, W32i, W8i, W16i, W64i, if_ps, if_ng, and_tr, fil_n1, fil_in, fil_out, le_tt, le_ff, lt_tt, lt_ff, eq_tt, eq_ff, k7, ct, tg', ad, q] <;> iterate 14 (try (simp only [M301]; simp (disch := omega) only [bcd, true_and, and_true, and_self, if_true, if_false, ite_true, ite_false, reduceIte, Int.reduceEq, Int.reduceNe, Int.reduceLT, Int.reduceLE, Int.reduceAdd, Int.reduceSub, Int.reduceMul, Int.reduceNeg, Int.reduceMod, Int.reduceDiv, Int.reduceToNat, Nat.reduceAdd, Nat.reduceLeDiff, List.length_cons, List.length_nil, not_false_eq_true, not_true_eq_false, ne_eq, or_false, false_or, or_self, false_and, and_false, or_true, true_or, ite_self, Int.add_sub_cancel, Int.sub_add_cancel, b_lc1, b_lc2, b_lc3, b_lc4, b_lc5, up_eq, up_ei, up_n1, up_n2, W32i, W8i, W16i, W64i, if_ps, if_ng, and_tr, fil_n1, fil_in, fil_out, le_tt, le_ff, lt_tt, lt_ff, eq_tt, eq_ff, ct]))
      · rw [show decide (nt f (wi f (w0 f 7) i) = L.ad n) = false from decide_eq_false q, Bool.or_false]
        cases b <;> simp only [zb1_t, zb1_f] <;> simp (disch := omega) only [bcd, true_and, and_true, and_self, if_true, if_false, ite_true, ite_false, reduceIte, Int.reduceEq, Int.reduceNe, Int.reduceLT, Int.reduceLE, Int.reduceAdd, Int.reduceSub, Int.reduceMul, Int.reduceNeg, Int.reduceMod, Int.reduceDiv, Int.reduceToNat, Nat.reduceAdd, Nat.reduceLeDiff, List.length_cons, List.length_nil, not_false_eq_true, not_true_eq_false, ne_eq, or_false, false_or, or_self, false_and, and_false, or_true, true_or, ite_self, Int.add_sub_cancel, Int.sub_add_cancel, b_lc1, b_lc2, b_lc3, b_lc4, b_lc5, up_eq, up_ei, up_n1, up_n2, W32i, W8i, W16i, W64i, if_ps, if_ng, and_tr, fil_n1, fil_in, fil_out, le_tt, le_ff, lt_tt, lt_ff, eq_tt, eq_ff, k7, ct, tg', ad, q] <;> iterate 14 (try (simp only [M301]; simp (disch := omega) only [bcd, true_and, and_true, and_self, if_true, if_false, ite_true, ite_false, reduceIte, Int.reduceEq, Int.reduceNe, Int.reduceLT, Int.reduceLE, Int.reduceAdd, Int.reduceSub, Int.reduceMul, Int.reduceNeg, Int.reduceMod, Int.reduceDiv, Int.reduceToNat, Nat.reduceAdd, Nat.reduceLeDiff, List.length_cons, List.length_nil, not_false_eq_true, not_true_eq_false, ne_eq, or_false, false_or, or_self, false_and, and_false, or_true, true_or, ite_self, Int.add_sub_cancel, Int.sub_add_cancel, b_lc1, b_lc2, b_lc3, b_lc4, b_lc5, up_eq, up_ei, up_n1, up_n2, W32i, W8i, W16i, W64i, if_ps, if_ng, and_tr, fil_n1, fil_in, fil_out, le_tt, le_ff, lt_tt, lt_ff, eq_tt, eq_ff, ct]))
  have A := lp (nc f (w0 f 7)).toNat 0 (decide (256 ≤ L.ad n)) (by omega)
  rw [show ((0 : Nat) : Int) = 0 by rfl] at A
  unfold sgn
  rw [← A]
  by_cases q : 256 ≤ L.ad n
  · rw [show decide (256 ≤ L.ad n) = true from decide_eq_true q, zb1_t]
    simp (disch := omega) only [bcd, true_and, and_true, and_self, if_true, if_false, ite_true, ite_false, reduceIte, Int.reduceEq, Int.reduceNe, Int.reduceLT, Int.reduceLE, Int.reduceAdd, Int.reduceSub, Int.reduceMul, Int.reduceNeg, Int.reduceMod, Int.reduceDiv, Int.reduceToNat, Nat.reduceAdd, Nat.reduceLeDiff, List.length_cons, List.length_nil, not_false_eq_true, not_true_eq_false, ne_eq, or_false, false_or, or_self, false_and, and_false, or_true, true_or, ite_self, Int.add_sub_cancel, Int.sub_add_cancel, b_lc1, b_lc2, b_lc3, b_lc4, b_lc5, up_eq, up_ei, up_n1, up_n2, W32i, W8i, W16i, W64i, if_ps, if_ng, and_tr, fil_n1, fil_in, fil_out, le_tt, le_ff, lt_tt, lt_ff, eq_tt, eq_ff, M301, ad]
  · rw [show decide (256 ≤ L.ad n) = false from decide_eq_false q, zb1_f]
    simp (disch := omega) only [bcd, true_and, and_true, and_self, if_true, if_false, ite_true, ite_false, reduceIte, Int.reduceEq, Int.reduceNe, Int.reduceLT, Int.reduceLE, Int.reduceAdd, Int.reduceSub, Int.reduceMul, Int.reduceNeg, Int.reduceMod, Int.reduceDiv, Int.reduceToNat, Nat.reduceAdd, Nat.reduceLeDiff, List.length_cons, List.length_nil, not_false_eq_true, not_true_eq_false, ne_eq, or_false, false_or, or_self, false_and, and_false, or_true, true_or, ite_self, Int.add_sub_cancel, Int.sub_add_cancel, b_lc1, b_lc2, b_lc3, b_lc4, b_lc5, up_eq, up_ei, up_n1, up_n2, W32i, W8i, W16i, W64i, if_ps, if_ng, and_tr, fil_n1, fil_in, fil_out, le_tt, le_ff, lt_tt, lt_ff, eq_tt, eq_ff, M301, ad]
theorem m_areSigned {S : Sto} {f : F} {sc : Int} {L : Led} (h : MT S f sc L) (mi : MI S f) (th : there L f = true) (Q : ZQ) : zCall Cd 300 3 [(34, 34)] S Q = Q S (0, zb1 (sgd L f)) := by
  obtain ⟨t1, t2, t3, t4, t5⟩ := there_1 th
  have l0 := h.t.l0
  have l1 := h.t.l1
  have im := mi.im
  have sm := mi.sm
  have lB : ∀ (c i : Nat) (b : Bool), (i : Int) + c = nc f (w0 f 1) → zG Cd 300 (Cd 300 43) [(34, 34), (0, zb1 b), (0, (i : Int))] [] S Q = Q S (0, zb1 (b && zall (fun i => sgn L f ((nt f (wi f (w0 f 1) i)))) c i)) := by
    intro c
    induction c with
    | zero =>
      intro i b hi
      rw [zall, Bool.and_true, L300_43]
      cases b <;> simp only [zb1_t, zb1_f] <;> simp (disch := omega) only [bcd, true_and, and_true, and_self, if_true, if_false, ite_true, ite_false, reduceIte, Int.reduceEq, Int.reduceNe, Int.reduceLT, Int.reduceLE, Int.reduceAdd, Int.reduceSub, Int.reduceMul, Int.reduceNeg, Int.reduceMod, Int.reduceDiv, Int.reduceToNat, Nat.reduceAdd, Nat.reduceLeDiff, List.length_cons, List.length_nil, not_false_eq_true, not_true_eq_false, ne_eq, or_false, false_or, or_self, false_and, and_false, or_true, true_or, ite_self, Int.add_sub_cancel, Int.sub_add_cancel, b_lc1, b_lc2, b_lc3, b_lc4, b_lc5, up_eq, up_ei, up_n1, up_n2, W32i, W8i, W16i, W64i, if_ps, if_ng, and_tr, fil_n1, fil_in, fil_out, le_tt, le_ff, lt_tt, lt_ff, eq_tt, eq_ff, M300, sm]
    | succ c ih =>
      intro i b hi
      have I := ih (i + 1) (b && sgn L f ((nt f (wi f (w0 f 1) i)))) (by omega)
      rw [show ((i + 1 : Nat) : Int) = (i : Int) + 1 by omega] at I
      have lv := t3 i (by omega)
      have xi := mi.ss i (by omega)
      have xs := fun Q => m_isSigned h ((nt f (wi f (w0 f 1) i))) lv.1 lv.2.1 Q
      rw [zall, ← Bool.and_assoc, ← I]
      conv => lhs; rw [L300_43]
      cases z : sgn L f ((nt f (wi f (w0 f 1) i))) <;> simp only [z, zb1_t, zb1_f] at xs <;> cases b <;> simp only [zb1_t, zb1_f, Bool.and_true, Bool.and_false] <;> simp (disch := omega) only [bcd, true_and, and_true, and_self, if_true, if_false, ite_true, ite_false, reduceIte, Int.reduceEq, Int.reduceNe, Int.reduceLT, Int.reduceLE, Int.reduceAdd, Int.reduceSub, Int.reduceMul, Int.reduceNeg, Int.reduceMod, Int.reduceDiv, Int.reduceToNat, Nat.reduceAdd, Nat.reduceLeDiff, List.length_cons, List.length_nil, not_false_eq_true, not_true_eq_false, ne_eq, or_false, false_or, or_self, false_and, and_false, or_true, true_or, ite_self, Int.add_sub_cancel, Int.sub_add_cancel, b_lc1, b_lc2, b_lc3, b_lc4, b_lc5, up_eq, up_ei, up_n1, up_n2, W32i, W8i, W16i, W64i, if_ps, if_ng, and_tr, fil_n1, fil_in, fil_out, le_tt, le_ff, lt_tt, lt_ff, eq_tt, eq_ff, sm, xi, xs] <;> iterate 14 (try (simp only [M300]; simp (disch := omega) only [bcd, true_and, and_true, and_self, if_true, if_false, ite_true, ite_false, reduceIte, Int.reduceEq, Int.reduceNe, Int.reduceLT, Int.reduceLE, Int.reduceAdd, Int.reduceSub, Int.reduceMul, Int.reduceNeg, Int.reduceMod, Int.reduceDiv, Int.reduceToNat, Nat.reduceAdd, Nat.reduceLeDiff, List.length_cons, List.length_nil, not_false_eq_true, not_true_eq_false, ne_eq, or_false, false_or, or_self, false_and, and_false, or_true, true_or, ite_self, Int.add_sub_cancel, Int.sub_add_cancel, b_lc1, b_lc2, b_lc3, b_lc4, b_lc5, up_eq, up_ei, up_n1, up_n2, W32i, W8i, W16i, W64i, if_ps, if_ng, and_tr, fil_n1, fil_in, fil_out, le_tt, le_ff, lt_tt, lt_ff, eq_tt, eq_ff, sm]))
  have lA : ∀ (c i : Nat) (b : Bool), (i : Int) + c = nc f (w0 f 0) → zG Cd 300 (Cd 300 4) [(34, 34), (0, zb1 b), (0, (i : Int))] [] S Q = Q S (0, zb1 ((b && zall (fun i => sgn L f ((nt f (wi f (w0 f 0) i + 1)))) c i) && zall (fun i => sgn L f ((nt f (wi f (w0 f 1) i)))) (nc f (w0 f 1)).toNat 0)) := by
    intro c
    induction c with
    | zero =>
      intro i b hi
      have B := lB (nc f (w0 f 1)).toNat 0 b (by omega)
      rw [show ((0 : Nat) : Int) = 0 by rfl] at B
      rw [zall, Bool.and_true, ← B, L300_4]
      simp (disch := omega) only [bcd, true_and, and_true, and_self, if_true, if_false, ite_true, ite_false, reduceIte, Int.reduceEq, Int.reduceNe, Int.reduceLT, Int.reduceLE, Int.reduceAdd, Int.reduceSub, Int.reduceMul, Int.reduceNeg, Int.reduceMod, Int.reduceDiv, Int.reduceToNat, Nat.reduceAdd, Nat.reduceLeDiff, List.length_cons, List.length_nil, not_false_eq_true, not_true_eq_false, ne_eq, or_false, false_or, or_self, false_and, and_false, or_true, true_or, ite_self, Int.add_sub_cancel, Int.sub_add_cancel, b_lc1, b_lc2, b_lc3, b_lc4, b_lc5, up_eq, up_ei, up_n1, up_n2, W32i, W8i, W16i, W64i, if_ps, if_ng, and_tr, fil_n1, fil_in, fil_out, le_tt, le_ff, lt_tt, lt_ff, eq_tt, eq_ff, M300, im]
    | succ c ih =>
      intro i b hi
      have I := ih (i + 1) (b && sgn L f ((nt f (wi f (w0 f 0) i + 1)))) (by omega)
      rw [show ((i + 1 : Nat) : Int) = (i : Int) + 1 by omega] at I
      have lv := t1 i (by omega)
      have xi := mi.ii i (by omega)
      have xs := fun Q => m_isSigned h ((nt f (wi f (w0 f 0) i + 1))) lv.1 lv.2.1 Q
      rw [zall, ← Bool.and_assoc, ← I]
      conv => lhs; rw [L300_4]
      cases z : sgn L f ((nt f (wi f (w0 f 0) i + 1))) <;> simp only [z, zb1_t, zb1_f] at xs <;> cases b <;> simp only [zb1_t, zb1_f, Bool.and_true, Bool.and_false] <;> simp (disch := omega) only [bcd, true_and, and_true, and_self, if_true, if_false, ite_true, ite_false, reduceIte, Int.reduceEq, Int.reduceNe, Int.reduceLT, Int.reduceLE, Int.reduceAdd, Int.reduceSub, Int.reduceMul, Int.reduceNeg, Int.reduceMod, Int.reduceDiv, Int.reduceToNat, Nat.reduceAdd, Nat.reduceLeDiff, List.length_cons, List.length_nil, not_false_eq_true, not_true_eq_false, ne_eq, or_false, false_or, or_self, false_and, and_false, or_true, true_or, ite_self, Int.add_sub_cancel, Int.sub_add_cancel, b_lc1, b_lc2, b_lc3, b_lc4, b_lc5, up_eq, up_ei, up_n1, up_n2, W32i, W8i, W16i, W64i, if_ps, if_ng, and_tr, fil_n1, fil_in, fil_out, le_tt, le_ff, lt_tt, lt_ff, eq_tt, eq_ff, im, xi, xs] <;> iterate 14 (try (simp only [M300]; simp (disch := omega) only [bcd, true_and, and_true, and_self, if_true, if_false, ite_true, ite_false, reduceIte, Int.reduceEq, Int.reduceNe, Int.reduceLT, Int.reduceLE, Int.reduceAdd, Int.reduceSub, Int.reduceMul, Int.reduceNeg, Int.reduceMod, Int.reduceDiv, Int.reduceToNat, Nat.reduceAdd, Nat.reduceLeDiff, List.length_cons, List.length_nil, not_false_eq_true, not_true_eq_false, ne_eq, or_false, false_or, or_self, false_and, and_false, or_true, true_or, ite_self, Int.add_sub_cancel, Int.sub_add_cancel, b_lc1, b_lc2, b_lc3, b_lc4, b_lc5, up_eq, up_ei, up_n1, up_n2, W32i, W8i, W16i, W64i, if_ps, if_ng, and_tr, fil_n1, fil_in, fil_out, le_tt, le_ff, lt_tt, lt_ff, eq_tt, eq_ff, im]))
  have A := lA (nc f (w0 f 0)).toNat 0 true (by omega)
  rw [show ((0 : Nat) : Int) = 0 by rfl, Bool.true_and, zb1_t] at A
  unfold sgd
  rw [← A]
  simp (disch := omega) only [bcd, true_and, and_true, and_self, if_true, if_false, ite_true, ite_false, reduceIte, Int.reduceEq, Int.reduceNe, Int.reduceLT, Int.reduceLE, Int.reduceAdd, Int.reduceSub, Int.reduceMul, Int.reduceNeg, Int.reduceMod, Int.reduceDiv, Int.reduceToNat, Nat.reduceAdd, Nat.reduceLeDiff, List.length_cons, List.length_nil, not_false_eq_true, not_true_eq_false, ne_eq, or_false, false_or, or_self, false_and, and_false, or_true, true_or, ite_self, Int.add_sub_cancel, Int.sub_add_cancel, b_lc1, b_lc2, b_lc3, b_lc4, b_lc5, up_eq, up_ei, up_n1, up_n2, W32i, W8i, W16i, W64i, if_ps, if_ng, and_tr, fil_n1, fil_in, fil_out, le_tt, le_ff, lt_tt, lt_ff, eq_tt, eq_ff, M300]
theorem m_has {S : Sto} {f : F} {sc : Int} {L : Led} (h : MT S f sc L) (mi : MI S f) (th : there L f = true) (Q : ZQ) : zCall Cd 302 3 [(34, 34)] S Q = Q S (0, zb1 (nds L f)) := by
  obtain ⟨t1, t2, t3, t4, t5⟩ := there_1 th
  have t := h.t
  have l0 := t.l0
  have l5 := t.l5
  have sz := t.sz
  have nn := h.w.n
  have im := mi.im
  have a5 := t.fd 5 (by omega)
  have k5 : S 142 5 = w0 f 5 := h.s.fl 5 (by omega)
  have ct := h.d.ct (w0 f 5) (by omega) a5.2
  have lp : ∀ (c i : Nat) (b : Bool), (i : Int) + c = nc f (w0 f 0) → zG Cd 302 (Cd 302 22) [(34, 34), (0, zb1 b), (0, (i : Int))] [] S Q = Q S (0, zb1 (b || zany (fun i => decide (256 ≤ L.ad ((nt f (wi f (w0 f 0) i + 1))))) c i)) := by
    intro c
    induction c with
    | zero =>
      intro i b hi
      rw [zany, Bool.or_false, L302_22]
      cases b <;> simp only [zb1_t, zb1_f] <;> simp (disch := omega) only [bcd, true_and, and_true, and_self, if_true, if_false, ite_true, ite_false, reduceIte, Int.reduceEq, Int.reduceNe, Int.reduceLT, Int.reduceLE, Int.reduceAdd, Int.reduceSub, Int.reduceMul, Int.reduceNeg, Int.reduceMod, Int.reduceDiv, Int.reduceToNat, Nat.reduceAdd, Nat.reduceLeDiff, List.length_cons, List.length_nil, not_false_eq_true, not_true_eq_false, ne_eq, or_false, false_or, or_self, false_and, and_false, or_true, true_or, ite_self, Int.add_sub_cancel, Int.sub_add_cancel, b_lc1, b_lc2, b_lc3, b_lc4, b_lc5, up_eq, up_ei, up_n1, up_n2, W32i, W8i, W16i, W64i, if_ps, if_ng, and_tr, fil_n1, fil_in, fil_out, le_tt, le_ff, lt_tt, lt_ff, eq_tt, eq_ff, M302, im]
    | succ c ih =>
      intro i b hi
      have I := ih (i + 1) (b || decide (256 ≤ L.ad ((nt f (wi f (w0 f 0) i + 1))))) (by omega)
      rw [show ((i + 1 : Nat) : Int) = (i : Int) + 1 by omega] at I
      have lv := t1 i (by omega)
      have xi := mi.ii i (by omega)
      have ad := h.l.ad ((nt f (wi f (w0 f 0) i + 1))) lv.1 lv.2.1
      obtain ⟨v1, v2, v3⟩ := lv
      rw [zany, ← Bool.or_assoc, ← I]
      conv => lhs; rw [L302_22]
      by_cases q : 256 ≤ L.ad ((nt f (wi f (w0 f 0) i + 1)))
      · rw [show decide (256 ≤ L.ad ((nt f (wi f (w0 f 0) i + 1)))) = true from decide_eq_true q, Bool.or_true]
        cases b <;> simp only [zb1_t, zb1_f] <;> simp (disch := omega) only [bcd, true_and, and_true, and_self, if_true, if_false, ite_true, ite_false, reduceIte, Int.reduceEq, Int.reduceNe, Int.reduceLT, Int.reduceLE, Int.reduceAdd, Int.reduceSub, Int.reduceMul, Int.reduceNeg, Int.reduceMod, Int.reduceDiv, Int.reduceToNat, Nat.reduceAdd, Nat.reduceLeDiff, List.length_cons, List.length_nil, not_false_eq_true, not_true_eq_false, ne_eq, or_false, false_or, or_self, false_and, and_false, or_true, true_or, ite_self, Int.add_sub_cancel, Int.sub_add_cancel, b_lc1, b_lc2, b_lc3, b_lc4, b_lc5, up_eq, up_ei, up_n1, up_n2, W32i, W8i, W16i, W64i, if_ps, if_ng, and_tr, fil_n1, fil_in, fil_out, le_tt, le_ff, lt_tt, lt_ff, eq_tt, eq_ff, im, xi, ad] <;> iterate 14 (try (simp only [M302]; simp (disch := omega) only [bcd, true_and, and_true, and_self, if_true, if_false, ite_true, ite_false, reduceIte, Int.reduceEq, Int.reduceNe, Int.reduceLT, Int.reduceLE, Int.reduceAdd, Int.reduceSub, Int.reduceMul, Int.reduceNeg, Int.reduceMod, Int.reduceDiv, Int.reduceToNat, Nat.reduceAdd, Nat.reduceLeDiff, List.length_cons, List.length_nil, not_false_eq_true, not_true_eq_false, ne_eq, or_false, false_or, or_self, false_and, and_false, or_true, true_or, ite_self, Int.add_sub_cancel, Int.sub_add_cancel, b_lc1, b_lc2, b_lc3, b_lc4, b_lc5, up_eq, up_ei, up_n1, up_n2, W32i, W8i, W16i, W64i, if_ps, if_ng, and_tr, fil_n1, fil_in, fil_out, le_tt, le_ff, lt_tt, lt_ff, eq_tt, eq_ff, im]))
      · rw [show decide (256 ≤ L.ad ((nt f (wi f (w0 f 0) i + 1)))) = false from decide_eq_false q, Bool.or_false]
        cases b <;> simp only [zb1_t, zb1_f] <;> simp (disch := omega) only [bcd, true_and, and_true, and_self, if_true, if_false, ite_true, ite_false, reduceIte, Int.reduceEq, Int.reduceNe, Int.reduceLT, Int.reduceLE, Int.reduceAdd, Int.reduceSub, Int.reduceMul, Int.reduceNeg, Int.reduceMod, Int.reduceDiv, Int.reduceToNat, Nat.reduceAdd, Nat.reduceLeDiff, List.length_cons, List.length_nil, not_false_eq_true, not_true_eq_false, ne_eq, or_false, false_or, or_self, false_and, and_false, or_true, true_or, ite_self, Int.add_sub_cancel, Int.sub_add_cancel, b_lc1, b_lc2, b_lc3, b_lc4, b_lc5, up_eq, up_ei, up_n1, up_n2, W32i, W8i, W16i, W64i, if_ps, if_ng, and_tr, fil_n1, fil_in, fil_out, le_tt, le_ff, lt_tt, lt_ff, eq_tt, eq_ff, im, xi, ad] <;> iterate 14 (try (simp only [M302]; simp (disch := omega) only [bcd, true_and, and_true, and_self, if_true, if_false, ite_true, ite_false, reduceIte, Int.reduceEq, Int.reduceNe, Int.reduceLT, Int.reduceLE, Int.reduceAdd, Int.reduceSub, Int.reduceMul, Int.reduceNeg, Int.reduceMod, Int.reduceDiv, Int.reduceToNat, Nat.reduceAdd, Nat.reduceLeDiff, List.length_cons, List.length_nil, not_false_eq_true, not_true_eq_false, ne_eq, or_false, false_or, or_self, false_and, and_false, or_true, true_or, ite_self, Int.add_sub_cancel, Int.sub_add_cancel, b_lc1, b_lc2, b_lc3, b_lc4, b_lc5, up_eq, up_ei, up_n1, up_n2, W32i, W8i, W16i, W64i, if_ps, if_ng, and_tr, fil_n1, fil_in, fil_out, le_tt, le_ff, lt_tt, lt_ff, eq_tt, eq_ff, im]))
  have A := lp (nc f (w0 f 0)).toNat 0 (decide (0 < nc f (w0 f 5))) (by omega)
  rw [show ((0 : Nat) : Int) = 0 by rfl] at A
  unfold nds
  rw [← A]
  by_cases q : 0 < nc f (w0 f 5)
  · rw [show decide (0 < nc f (w0 f 5)) = true from decide_eq_true q, zb1_t]
    simp (disch := omega) only [bcd, true_and, and_true, and_self, if_true, if_false, ite_true, ite_false, reduceIte, Int.reduceEq, Int.reduceNe, Int.reduceLT, Int.reduceLE, Int.reduceAdd, Int.reduceSub, Int.reduceMul, Int.reduceNeg, Int.reduceMod, Int.reduceDiv, Int.reduceToNat, Nat.reduceAdd, Nat.reduceLeDiff, List.length_cons, List.length_nil, not_false_eq_true, not_true_eq_false, ne_eq, or_false, false_or, or_self, false_and, and_false, or_true, true_or, ite_self, Int.add_sub_cancel, Int.sub_add_cancel, b_lc1, b_lc2, b_lc3, b_lc4, b_lc5, up_eq, up_ei, up_n1, up_n2, W32i, W8i, W16i, W64i, if_ps, if_ng, and_tr, fil_n1, fil_in, fil_out, le_tt, le_ff, lt_tt, lt_ff, eq_tt, eq_ff, M302, k5, ct]
  · rw [show decide (0 < nc f (w0 f 5)) = false from decide_eq_false q, zb1_f]
    simp (disch := omega) only [bcd, true_and, and_true, and_self, if_true, if_false, ite_true, ite_false, reduceIte, Int.reduceEq, Int.reduceNe, Int.reduceLT, Int.reduceLE, Int.reduceAdd, Int.reduceSub, Int.reduceMul, Int.reduceNeg, Int.reduceMod, Int.reduceDiv, Int.reduceToNat, Nat.reduceAdd, Nat.reduceLeDiff, List.length_cons, List.length_nil, not_false_eq_true, not_true_eq_false, ne_eq, or_false, false_or, or_self, false_and, and_false, or_true, true_or, ite_self, Int.add_sub_cancel, Int.sub_add_cancel, b_lc1, b_lc2, b_lc3, b_lc4, b_lc5, up_eq, up_ei, up_n1, up_n2, W32i, W8i, W16i, W64i, if_ps, if_ng, and_tr, fil_n1, fil_in, fil_out, le_tt, le_ff, lt_tt, lt_ff, eq_tt, eq_ff, M302, k5, ct]
theorem m_isCov {S : Sto} {f : F} {sc : Int} {L : Led} (h : MT S f sc L) (mi : MI S f) (th : there L f = true) (Q : ZQ) : zCall Cd 303 6 [(34, 34)] S Q = Q S (0, zb1 (cvd L f)) := by
  obtain ⟨t1, t2, t3, t4, t5⟩ := there_1 th
  have t := h.t
  have l1 := t.l1
  have sz := t.sz
  have nn := h.w.n
  have sm := mi.sm
  have k3 : S 142 3 = w0 f 3 := h.s.fl 3 (by omega)
  have a3 := t.fd 3 (by omega)
  have tg := h.d.tg (w0 f 3) (by omega) a3.2
  obtain ⟨_, fe1, fe2⟩ := t.fe
  have b0 := cBs_b h.w th (nc f (w0 f 1)).toNat (by omega)
  have lp : ∀ (c i : Nat) (b : Bool) (y : AV), (i : Int) + c = nc f (w0 f 1) → zG Cd 303 (Cd 303 18) [(34, 34), (1, cBs L f i), (9, 0), (0, zb1 b), (0, (i : Int)), y] [] S Q = Q S (0, zb1 ((b && zall (cvk L f) c i) && decide ((nt f (w0 f 3)) ≤ cBs L f (nc f (w0 f 1)).toNat - (nt f (w0 f 3))))) := by
    intro c
    induction c with
    | zero =>
      intro i b y hi
      have ei : (nc f (w0 f 1)).toNat = i := by omega
      rw [ei] at b0
      rw [zall, Bool.and_true, L303_18, ei]
      by_cases q : (nt f (w0 f 3)) ≤ cBs L f i - (nt f (w0 f 3))
      · rw [show decide ((nt f (w0 f 3)) ≤ cBs L f i - (nt f (w0 f 3))) = true from decide_eq_true q, Bool.and_true]
        cases b <;> simp only [zb1_t, zb1_f] <;> simp (disch := omega) only [bcd, true_and, and_true, and_self, if_true, if_false, ite_true, ite_false, reduceIte, Int.reduceEq, Int.reduceNe, Int.reduceLT, Int.reduceLE, Int.reduceAdd, Int.reduceSub, Int.reduceMul, Int.reduceNeg, Int.reduceMod, Int.reduceDiv, Int.reduceToNat, Nat.reduceAdd, Nat.reduceLeDiff, List.length_cons, List.length_nil, not_false_eq_true, not_true_eq_false, ne_eq, or_false, false_or, or_self, false_and, and_false, or_true, true_or, ite_self, Int.add_sub_cancel, Int.sub_add_cancel, b_lc1, b_lc2, b_lc3, b_lc4, b_lc5, up_eq, up_ei, up_n1, up_n2, W32i, W8i, W16i, W64i, if_ps, if_ng, and_tr, fil_n1, fil_in, fil_out, le_tt, le_ff, lt_tt, lt_ff, eq_tt, eq_ff, M303, sm, k3, tg]
      · rw [show decide ((nt f (w0 f 3)) ≤ cBs L f i - (nt f (w0 f 3))) = false from decide_eq_false q, Bool.and_false]
        cases b <;> simp only [zb1_t, zb1_f] <;> simp (disch := omega) only [bcd, true_and, and_true, and_self, if_true, if_false, ite_true, ite_false, reduceIte, Int.reduceEq, Int.reduceNe, Int.reduceLT, Int.reduceLE, Int.reduceAdd, Int.reduceSub, Int.reduceMul, Int.reduceNeg, Int.reduceMod, Int.reduceDiv, Int.reduceToNat, Nat.reduceAdd, Nat.reduceLeDiff, List.length_cons, List.length_nil, not_false_eq_true, not_true_eq_false, ne_eq, or_false, false_or, or_self, false_and, and_false, or_true, true_or, ite_self, Int.add_sub_cancel, Int.sub_add_cancel, b_lc1, b_lc2, b_lc3, b_lc4, b_lc5, up_eq, up_ei, up_n1, up_n2, W32i, W8i, W16i, W64i, if_ps, if_ng, and_tr, fil_n1, fil_in, fil_out, le_tt, le_ff, lt_tt, lt_ff, eq_tt, eq_ff, M303, sm, k3, tg]
    | succ c ih =>
      intro i b y hi
      have I := ih (i + 1) (b && cvk L f i) (0, (nt f (wi f (w0 f 1) i))) (by omega)
      rw [show ((i + 1 : Nat) : Int) = (i : Int) + 1 by omega] at I
      have lv := t3 i (by omega)
      have xi := mi.ss i (by omega)
      have ow := h.w.ow _ lv.1 lv.2.1
      have kd := ow.kd
      have xk := h.l.kd _ lv.1 lv.2.1
      have ad := h.l.ad _ lv.1 lv.2.1
      have po := h.l.po ((nt f (wi f (w0 f 1) i))) 0 lv.1 lv.2.1 (by omega) (by omega)
      rw [Int.add_zero] at po
      have am := fun Q => m_amt S Q ((nt f (wi f (w0 f 1) i))) 0 0 lv.1 (by have := lv.2.1; omega) (by omega) (by omega)
      simp only [h.l.amt h.w 0 0 _ lv.1 lv.2.1] at am
      have c0 := cBs_b h.w th i (by omega)
      have c1 := cBs_b h.w th (i + 1) (by omega)
      rw [cBs] at I c1
      obtain ⟨v1, v2, v3⟩ := lv
      rw [zall, ← Bool.and_assoc, ← I]
      conv => lhs; rw [L303_18]
      by_cases q1 : L.ad ((nt f (wi f (w0 f 1) i))) < 256
      · by_cases q2 : L.kd ((nt f (wi f (w0 f 1) i))) = 1
        · by_cases q3 : L.po (8 * (nt f (wi f (w0 f 1) i))) = 0
          · rw [show cvk L f i = true from decide_eq_true ⟨q1, q2, q3⟩, Bool.and_true]
            cases b <;> simp only [zb1_t, zb1_f] <;> simp (disch := omega) only [bcd, true_and, and_true, and_self, if_true, if_false, ite_true, ite_false, reduceIte, Int.reduceEq, Int.reduceNe, Int.reduceLT, Int.reduceLE, Int.reduceAdd, Int.reduceSub, Int.reduceMul, Int.reduceNeg, Int.reduceMod, Int.reduceDiv, Int.reduceToNat, Nat.reduceAdd, Nat.reduceLeDiff, List.length_cons, List.length_nil, not_false_eq_true, not_true_eq_false, ne_eq, or_false, false_or, or_self, false_and, and_false, or_true, true_or, ite_self, Int.add_sub_cancel, Int.sub_add_cancel, b_lc1, b_lc2, b_lc3, b_lc4, b_lc5, up_eq, up_ei, up_n1, up_n2, W32i, W8i, W16i, W64i, if_ps, if_ng, and_tr, fil_n1, fil_in, fil_out, le_tt, le_ff, lt_tt, lt_ff, eq_tt, eq_ff, sm, xi, ad, xk, po, q2, q3] <;> iterate 14 (try (simp only [M303]; simp (disch := omega) only [bcd, true_and, and_true, and_self, if_true, if_false, ite_true, ite_false, reduceIte, Int.reduceEq, Int.reduceNe, Int.reduceLT, Int.reduceLE, Int.reduceAdd, Int.reduceSub, Int.reduceMul, Int.reduceNeg, Int.reduceMod, Int.reduceDiv, Int.reduceToNat, Nat.reduceAdd, Nat.reduceLeDiff, List.length_cons, List.length_nil, not_false_eq_true, not_true_eq_false, ne_eq, or_false, false_or, or_self, false_and, and_false, or_true, true_or, ite_self, Int.add_sub_cancel, Int.sub_add_cancel, b_lc1, b_lc2, b_lc3, b_lc4, b_lc5, up_eq, up_ei, up_n1, up_n2, W32i, W8i, W16i, W64i, if_ps, if_ng, and_tr, fil_n1, fil_in, fil_out, le_tt, le_ff, lt_tt, lt_ff, eq_tt, eq_ff, am]))
          · rw [show cvk L f i = false from decide_eq_false (fun x => q3 x.2.2), Bool.and_false]
            cases b <;> simp only [zb1_t, zb1_f] <;> simp (disch := omega) only [bcd, true_and, and_true, and_self, if_true, if_false, ite_true, ite_false, reduceIte, Int.reduceEq, Int.reduceNe, Int.reduceLT, Int.reduceLE, Int.reduceAdd, Int.reduceSub, Int.reduceMul, Int.reduceNeg, Int.reduceMod, Int.reduceDiv, Int.reduceToNat, Nat.reduceAdd, Nat.reduceLeDiff, List.length_cons, List.length_nil, not_false_eq_true, not_true_eq_false, ne_eq, or_false, false_or, or_self, false_and, and_false, or_true, true_or, ite_self, Int.add_sub_cancel, Int.sub_add_cancel, b_lc1, b_lc2, b_lc3, b_lc4, b_lc5, up_eq, up_ei, up_n1, up_n2, W32i, W8i, W16i, W64i, if_ps, if_ng, and_tr, fil_n1, fil_in, fil_out, le_tt, le_ff, lt_tt, lt_ff, eq_tt, eq_ff, sm, xi, ad, xk, po, q2, q3] <;> iterate 14 (try (simp only [M303]; simp (disch := omega) only [bcd, true_and, and_true, and_self, if_true, if_false, ite_true, ite_false, reduceIte, Int.reduceEq, Int.reduceNe, Int.reduceLT, Int.reduceLE, Int.reduceAdd, Int.reduceSub, Int.reduceMul, Int.reduceNeg, Int.reduceMod, Int.reduceDiv, Int.reduceToNat, Nat.reduceAdd, Nat.reduceLeDiff, List.length_cons, List.length_nil, not_false_eq_true, not_true_eq_false, ne_eq, or_false, false_or, or_self, false_and, and_false, or_true, true_or, ite_self, Int.add_sub_cancel, Int.sub_add_cancel, b_lc1, b_lc2, b_lc3, b_lc4, b_lc5, up_eq, up_ei, up_n1, up_n2, W32i, W8i, W16i, W64i, if_ps, if_ng, and_tr, fil_n1, fil_in, fil_out, le_tt, le_ff, lt_tt, lt_ff, eq_tt, eq_ff, am]))
        · rw [show cvk L f i = false from decide_eq_false (fun x => q2 x.2.1), Bool.and_false]
          cases b <;> simp only [zb1_t, zb1_f] <;> simp (disch := omega) only [bcd, true_and, and_true, and_self, if_true, if_false, ite_true, ite_false, reduceIte, Int.reduceEq, Int.reduceNe, Int.reduceLT, Int.reduceLE, Int.reduceAdd, Int.reduceSub, Int.reduceMul, Int.reduceNeg, Int.reduceMod, Int.reduceDiv, Int.reduceToNat, Nat.reduceAdd, Nat.reduceLeDiff, List.length_cons, List.length_nil, not_false_eq_true, not_true_eq_false, ne_eq, or_false, false_or, or_self, false_and, and_false, or_true, true_or, ite_self, Int.add_sub_cancel, Int.sub_add_cancel, b_lc1, b_lc2, b_lc3, b_lc4, b_lc5, up_eq, up_ei, up_n1, up_n2, W32i, W8i, W16i, W64i, if_ps, if_ng, and_tr, fil_n1, fil_in, fil_out, le_tt, le_ff, lt_tt, lt_ff, eq_tt, eq_ff, sm, xi, ad, xk, po, q2] <;> iterate 14 (try (simp only [M303]; simp (disch := omega) only [bcd, true_and, and_true, and_self, if_true, if_false, ite_true, ite_false, reduceIte, Int.reduceEq, Int.reduceNe, Int.reduceLT, Int.reduceLE, Int.reduceAdd, Int.reduceSub, Int.reduceMul, Int.reduceNeg, Int.reduceMod, Int.reduceDiv, Int.reduceToNat, Nat.reduceAdd, Nat.reduceLeDiff, List.length_cons, List.length_nil, not_false_eq_true, not_true_eq_false, ne_eq, or_false, false_or, or_self, false_and, and_false, or_true, true_or, ite_self, Int.add_sub_cancel, Int.sub_add_cancel, b_lc1, b_lc2, b_lc3, b_lc4, b_lc5, up_eq, up_ei, up_n1, up_n2, W32i, W8i, W16i, W64i, if_ps, if_ng, and_tr, fil_n1, fil_in, fil_out, le_tt, le_ff, lt_tt, lt_ff, eq_tt, eq_ff, am]))
      · rw [show cvk L f i = false from decide_eq_false (fun x => q1 x.1), Bool.and_false]
        cases b <;> simp only [zb1_t, zb1_f] <;> simp (disch := omega) only [bcd, true_and, and_true, and_self, if_true, if_false, ite_true, ite_false, reduceIte, Int.reduceEq, Int.reduceNe, Int.reduceLT, Int.reduceLE, Int.reduceAdd, Int.reduceSub, Int.reduceMul, Int.reduceNeg, Int.reduceMod, Int.reduceDiv, Int.reduceToNat, Nat.reduceAdd, Nat.reduceLeDiff, List.length_cons, List.length_nil, not_false_eq_true, not_true_eq_false, ne_eq, or_false, false_or, or_self, false_and, and_false, or_true, true_or, ite_self, Int.add_sub_cancel, Int.sub_add_cancel, b_lc1, b_lc2, b_lc3, b_lc4, b_lc5, up_eq, up_ei, up_n1, up_n2, W32i, W8i, W16i, W64i, if_ps, if_ng, and_tr, fil_n1, fil_in, fil_out, le_tt, le_ff, lt_tt, lt_ff, eq_tt, eq_ff, sm, xi, ad, xk, po] <;> iterate 14 (try (simp only [M303]; simp (disch := omega) only [bcd, true_and, and_true, and_self, if_true, if_false, ite_true, ite_false, reduceIte, Int.reduceEq, Int.reduceNe, Int.reduceLT, Int.reduceLE, Int.reduceAdd, Int.reduceSub, Int.reduceMul, Int.reduceNeg, Int.reduceMod, Int.reduceDiv, Int.reduceToNat, Nat.reduceAdd, Nat.reduceLeDiff, List.length_cons, List.length_nil, not_false_eq_true, not_true_eq_false, ne_eq, or_false, false_or, or_self, false_and, and_false, or_true, true_or, ite_self, Int.add_sub_cancel, Int.sub_add_cancel, b_lc1, b_lc2, b_lc3, b_lc4, b_lc5, up_eq, up_ei, up_n1, up_n2, W32i, W8i, W16i, W64i, if_ps, if_ng, and_tr, fil_n1, fil_in, fil_out, le_tt, le_ff, lt_tt, lt_ff, eq_tt, eq_ff, am]))
  have A := lp (nc f (w0 f 1)).toNat 0 (decide (0 < nc f (w0 f 1))) (9, 0) (by omega)
  rw [show ((0 : Nat) : Int) = 0 by rfl, cBs] at A
  unfold cvd
  rw [← A]
  by_cases q : 0 < nc f (w0 f 1)
  · rw [show decide (0 < nc f (w0 f 1)) = true from decide_eq_true q, zb1_t]
    simp (disch := omega) only [bcd, true_and, and_true, and_self, if_true, if_false, ite_true, ite_false, reduceIte, Int.reduceEq, Int.reduceNe, Int.reduceLT, Int.reduceLE, Int.reduceAdd, Int.reduceSub, Int.reduceMul, Int.reduceNeg, Int.reduceMod, Int.reduceDiv, Int.reduceToNat, Nat.reduceAdd, Nat.reduceLeDiff, List.length_cons, List.length_nil, not_false_eq_true, not_true_eq_false, ne_eq, or_false, false_or, or_self, false_and, and_false, or_true, true_or, ite_self, Int.add_sub_cancel, Int.sub_add_cancel, b_lc1, b_lc2, b_lc3, b_lc4, b_lc5, up_eq, up_ei, up_n1, up_n2, W32i, W8i, W16i, W64i, if_ps, if_ng, and_tr, fil_n1, fil_in, fil_out, le_tt, le_ff, lt_tt, lt_ff, eq_tt, eq_ff, M303, sm]
  · rw [show decide (0 < nc f (w0 f 1)) = false from decide_eq_false q, zb1_f]
    simp (disch := omega) only [bcd, true_and, and_true, and_self, if_true, if_false, ite_true, ite_false, reduceIte, Int.reduceEq, Int.reduceNe, Int.reduceLT, Int.reduceLE, Int.reduceAdd, Int.reduceSub, Int.reduceMul, Int.reduceNeg, Int.reduceMod, Int.reduceDiv, Int.reduceToNat, Nat.reduceAdd, Nat.reduceLeDiff, List.length_cons, List.length_nil, not_false_eq_true, not_true_eq_false, ne_eq, or_false, false_or, or_self, false_and, and_false, or_true, true_or, ite_self, Int.add_sub_cancel, Int.sub_add_cancel, b_lc1, b_lc2, b_lc3, b_lc4, b_lc5, up_eq, up_ei, up_n1, up_n2, W32i, W8i, W16i, W64i, if_ps, if_ng, and_tr, fil_n1, fil_in, fil_out, le_tt, le_ff, lt_tt, lt_ff, eq_tt, eq_ff, M303, sm]
theorem m_areLg {S : Sto} {f : F} {sc : Int} {L : Led} (h : MT S f sc L) (Q : ZQ) : zCall Cd 304 4 [(34, 34)] S Q = Q S (0, zb1 (lgd f)) := by
  have t := h.t
  have l2 := t.l2
  have sz := t.sz
  have a2 := t.fd 2 (by omega)
  have k2 : S 142 2 = w0 f 2 := h.s.fl 2 (by omega)
  have ct := h.d.ct (w0 f 2) (by omega) a2.2
  have lp : ∀ (c i : Nat) (b : Bool) (y : AV), (i : Int) + c = nc f (w0 f 2) → zG Cd 304 (Cd 304 4) [(34, 34), (0, zb1 b), (0, (i : Int)), y] [] S Q = Q S (0, zb1 (b && zall (lgk f) c i)) := by
    intro c
    induction c with
    | zero =>
      intro i b y hi
      rw [zall, Bool.and_true, L304_4]
      cases b <;> simp only [zb1_t, zb1_f] <;> simp (disch := omega) only [bcd, true_and, and_true, and_self, if_true, if_false, ite_true, ite_false, reduceIte, Int.reduceEq, Int.reduceNe, Int.reduceLT, Int.reduceLE, Int.reduceAdd, Int.reduceSub, Int.reduceMul, Int.reduceNeg, Int.reduceMod, Int.reduceDiv, Int.reduceToNat, Nat.reduceAdd, Nat.reduceLeDiff, List.length_cons, List.length_nil, not_false_eq_true, not_true_eq_false, ne_eq, or_false, false_or, or_self, false_and, and_false, or_true, true_or, ite_self, Int.add_sub_cancel, Int.sub_add_cancel, b_lc1, b_lc2, b_lc3, b_lc4, b_lc5, up_eq, up_ei, up_n1, up_n2, W32i, W8i, W16i, W64i, if_ps, if_ng, and_tr, fil_n1, fil_in, fil_out, le_tt, le_ff, lt_tt, lt_ff, eq_tt, eq_ff, M304, k2, ct]
    | succ c ih =>
      intro i b y hi
      have of1 := t.of i (by omega)
      have n0 := of1.n0
      have nk := of1.nk
      have ol := of1.l2
      have ol0 := of1.l0
      have wa := wi_l t.v (by omega) a2.2 l2.1 i (by omega)
      have wb := wi_l t.v (by omega) ol0.2 ol.1 0 (by omega)
      have w1 := fun Q => m_within h.d (w0 f 2) (i : Int) (by omega) a2.2 (by omega) (by omega) Q
      rw [show ((i : Int)).toNat = i by omega] at w1
      have w2 := fun Q => m_within h.d ((wi f (w0 f 2) i)) 1 (by omega) n0.2 (by omega) (by omega) Q
      rw [show (1 : Int).toNat = 1 by rfl] at w2
      have w3 := fun Q => m_within h.d (wi f ((wi f (w0 f 2) i)) 1) 0 (by omega) ol0.2 (by omega) (by omega) Q
      rw [show (0 : Int).toNat = 0 by rfl] at w3
      have cf := (of1.co 0 (by omega)).c0
      have g1 := h.d.tg (wi f (wi f ((wi f (w0 f 2) i)) 1) 0 + 1) (by omega) (by omega)
      have g3 := h.d.tg (wi f (wi f ((wi f (w0 f 2) i)) 1) 0 + 3) (by omega) (by omega)
      have I := ih (i + 1) (b && lgk f i) (0, wi f (wi f ((wi f (w0 f 2) i)) 1) 0) (by omega)
      rw [show ((i + 1 : Nat) : Int) = (i : Int) + 1 by omega] at I
      rw [zall, ← Bool.and_assoc, ← I]
      conv => lhs; rw [L304_4]
      by_cases q1 : nt f (wi f (wi f ((wi f (w0 f 2) i)) 1) 0 + 1) = 0
      · by_cases q2 : 2 ≤ nt f (wi f (wi f ((wi f (w0 f 2) i)) 1) 0 + 3)
        · rw [show lgk f i = true from decide_eq_true ⟨q1, q2⟩, Bool.and_true]
          cases b <;> simp only [zb1_t, zb1_f] <;> simp (disch := omega) only [bcd, true_and, and_true, and_self, if_true, if_false, ite_true, ite_false, reduceIte, Int.reduceEq, Int.reduceNe, Int.reduceLT, Int.reduceLE, Int.reduceAdd, Int.reduceSub, Int.reduceMul, Int.reduceNeg, Int.reduceMod, Int.reduceDiv, Int.reduceToNat, Nat.reduceAdd, Nat.reduceLeDiff, List.length_cons, List.length_nil, not_false_eq_true, not_true_eq_false, ne_eq, or_false, false_or, or_self, false_and, and_false, or_true, true_or, ite_self, Int.add_sub_cancel, Int.sub_add_cancel, b_lc1, b_lc2, b_lc3, b_lc4, b_lc5, up_eq, up_ei, up_n1, up_n2, W32i, W8i, W16i, W64i, if_ps, if_ng, and_tr, fil_n1, fil_in, fil_out, le_tt, le_ff, lt_tt, lt_ff, eq_tt, eq_ff, k2, ct, w1, w2, w3, g1, g3, q1] <;> iterate 14 (try (simp only [M304]; simp (disch := omega) only [bcd, true_and, and_true, and_self, if_true, if_false, ite_true, ite_false, reduceIte, Int.reduceEq, Int.reduceNe, Int.reduceLT, Int.reduceLE, Int.reduceAdd, Int.reduceSub, Int.reduceMul, Int.reduceNeg, Int.reduceMod, Int.reduceDiv, Int.reduceToNat, Nat.reduceAdd, Nat.reduceLeDiff, List.length_cons, List.length_nil, not_false_eq_true, not_true_eq_false, ne_eq, or_false, false_or, or_self, false_and, and_false, or_true, true_or, ite_self, Int.add_sub_cancel, Int.sub_add_cancel, b_lc1, b_lc2, b_lc3, b_lc4, b_lc5, up_eq, up_ei, up_n1, up_n2, W32i, W8i, W16i, W64i, if_ps, if_ng, and_tr, fil_n1, fil_in, fil_out, le_tt, le_ff, lt_tt, lt_ff, eq_tt, eq_ff, ct]))
        · rw [show lgk f i = false from decide_eq_false (fun x => q2 x.2), Bool.and_false]
          cases b <;> simp only [zb1_t, zb1_f] <;> simp (disch := omega) only [bcd, true_and, and_true, and_self, if_true, if_false, ite_true, ite_false, reduceIte, Int.reduceEq, Int.reduceNe, Int.reduceLT, Int.reduceLE, Int.reduceAdd, Int.reduceSub, Int.reduceMul, Int.reduceNeg, Int.reduceMod, Int.reduceDiv, Int.reduceToNat, Nat.reduceAdd, Nat.reduceLeDiff, List.length_cons, List.length_nil, not_false_eq_true, not_true_eq_false, ne_eq, or_false, false_or, or_self, false_and, and_false, or_true, true_or, ite_self, Int.add_sub_cancel, Int.sub_add_cancel, b_lc1, b_lc2, b_lc3, b_lc4, b_lc5, up_eq, up_ei, up_n1, up_n2, W32i, W8i, W16i, W64i, if_ps, if_ng, and_tr, fil_n1, fil_in, fil_out, le_tt, le_ff, lt_tt, lt_ff, eq_tt, eq_ff, k2, ct, w1, w2, w3, g1, g3, q1] <;> iterate 14 (try (simp only [M304]; simp (disch := omega) only [bcd, true_and, and_true, and_self, if_true, if_false, ite_true, ite_false, reduceIte, Int.reduceEq, Int.reduceNe, Int.reduceLT, Int.reduceLE, Int.reduceAdd, Int.reduceSub, Int.reduceMul, Int.reduceNeg, Int.reduceMod, Int.reduceDiv, Int.reduceToNat, Nat.reduceAdd, Nat.reduceLeDiff, List.length_cons, List.length_nil, not_false_eq_true, not_true_eq_false, ne_eq, or_false, false_or, or_self, false_and, and_false, or_true, true_or, ite_self, Int.add_sub_cancel, Int.sub_add_cancel, b_lc1, b_lc2, b_lc3, b_lc4, b_lc5, up_eq, up_ei, up_n1, up_n2, W32i, W8i, W16i, W64i, if_ps, if_ng, and_tr, fil_n1, fil_in, fil_out, le_tt, le_ff, lt_tt, lt_ff, eq_tt, eq_ff, ct]))
      · rw [show lgk f i = false from decide_eq_false (fun x => q1 x.1), Bool.and_false]
        cases b <;> simp only [zb1_t, zb1_f] <;> simp (disch := omega) only [bcd, true_and, and_true, and_self, if_true, if_false, ite_true, ite_false, reduceIte, Int.reduceEq, Int.reduceNe, Int.reduceLT, Int.reduceLE, Int.reduceAdd, Int.reduceSub, Int.reduceMul, Int.reduceNeg, Int.reduceMod, Int.reduceDiv, Int.reduceToNat, Nat.reduceAdd, Nat.reduceLeDiff, List.length_cons, List.length_nil, not_false_eq_true, not_true_eq_false, ne_eq, or_false, false_or, or_self, false_and, and_false, or_true, true_or, ite_self, Int.add_sub_cancel, Int.sub_add_cancel, b_lc1, b_lc2, b_lc3, b_lc4, b_lc5, up_eq, up_ei, up_n1, up_n2, W32i, W8i, W16i, W64i, if_ps, if_ng, and_tr, fil_n1, fil_in, fil_out, le_tt, le_ff, lt_tt, lt_ff, eq_tt, eq_ff, k2, ct, w1, w2, w3, g1, g3, q1] <;> iterate 14 (try (simp only [M304]; simp (disch := omega) only [bcd, true_and, and_true, and_self, if_true, if_false, ite_true, ite_false, reduceIte, Int.reduceEq, Int.reduceNe, Int.reduceLT, Int.reduceLE, Int.reduceAdd, Int.reduceSub, Int.reduceMul, Int.reduceNeg, Int.reduceMod, Int.reduceDiv, Int.reduceToNat, Nat.reduceAdd, Nat.reduceLeDiff, List.length_cons, List.length_nil, not_false_eq_true, not_true_eq_false, ne_eq, or_false, false_or, or_self, false_and, and_false, or_true, true_or, ite_self, Int.add_sub_cancel, Int.sub_add_cancel, b_lc1, b_lc2, b_lc3, b_lc4, b_lc5, up_eq, up_ei, up_n1, up_n2, W32i, W8i, W16i, W64i, if_ps, if_ng, and_tr, fil_n1, fil_in, fil_out, le_tt, le_ff, lt_tt, lt_ff, eq_tt, eq_ff, ct]))
  have A := lp (nc f (w0 f 2)).toNat 0 true (9, 0) (by omega)
  rw [show ((0 : Nat) : Int) = 0 by rfl, Bool.true_and, zb1_t] at A
  unfold lgd
  rw [← A]
  simp (disch := omega) only [bcd, true_and, and_true, and_self, if_true, if_false, ite_true, ite_false, reduceIte, Int.reduceEq, Int.reduceNe, Int.reduceLT, Int.reduceLE, Int.reduceAdd, Int.reduceSub, Int.reduceMul, Int.reduceNeg, Int.reduceMod, Int.reduceDiv, Int.reduceToNat, Nat.reduceAdd, Nat.reduceLeDiff, List.length_cons, List.length_nil, not_false_eq_true, not_true_eq_false, ne_eq, or_false, false_or, or_self, false_and, and_false, or_true, true_or, ite_self, Int.add_sub_cancel, Int.sub_add_cancel, b_lc1, b_lc2, b_lc3, b_lc4, b_lc5, up_eq, up_ei, up_n1, up_n2, W32i, W8i, W16i, W64i, if_ps, if_ng, and_tr, fil_n1, fil_in, fil_out, le_tt, le_ff, lt_tt, lt_ff, eq_tt, eq_ff, M304]
