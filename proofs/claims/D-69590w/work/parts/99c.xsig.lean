-- uses: 95
/-! signers, collateral, base amounts: X -/
def zany (P : Nat → Bool) : Nat → Nat → Bool
  | 0, _ => false
  | c + 1, j => P j || zany P c (j + 1)
def sgn (L : Led) (f : F) (n : Int) : Bool := decide (256 ≤ L.ad n) || zany (fun j => decide (nt f (wi f (w0 f 7) j) = L.ad n)) (nc f (w0 f 7)).toNat 0
def sgd (L : Led) (f : F) : Bool := zall (fun i => sgn L f ((nt f (wi f (w0 f 0) i + 1)))) (nc f (w0 f 0)).toNat 0 && zall (fun i => sgn L f ((nt f (wi f (w0 f 1) i)))) (nc f (w0 f 1)).toNat 0
def nds (L : Led) (f : F) : Bool := decide (0 < nc f (w0 f 5)) || zany (fun i => decide (256 ≤ L.ad ((nt f (wi f (w0 f 0) i + 1))))) (nc f (w0 f 0)).toNat 0
def cBs (L : Led) (f : F) : Nat → Int
  | 0 => 0
  | i + 1 => cBs L f i + L.amt 0 0 ((nt f (wi f (w0 f 1) i)))
def cvk (L : Led) (f : F) (i : Nat) : Bool := decide (L.ad ((nt f (wi f (w0 f 1) i))) < 256 ∧ L.kd ((nt f (wi f (w0 f 1) i))) = 1 ∧ L.po (8 * (nt f (wi f (w0 f 1) i))) = 0)
def cvd (L : Led) (f : F) : Bool := (decide (0 < nc f (w0 f 1)) && zall (cvk L f) (nc f (w0 f 1)).toNat 0) && decide ((nt f (w0 f 3)) ≤ cBs L f (nc f (w0 f 1)).toNat - (nt f (w0 f 3)))
def lgk (f : F) (i : Nat) : Bool := decide (nt f (wi f (wi f ((wi f (w0 f 2) i)) 1) 0 + 1) = 0 ∧ 2 ≤ nt f (wi f (wi f ((wi f (w0 f 2) i)) 1) 0 + 3))
def lgd (f : F) : Bool := zall (lgk f) (nc f (w0 f 2)).toNat 0
theorem TF.sw {f : F} {sc : Int} (t : TF f sc) (i : Nat) (hi : (i : Int) < nc f (w0 f 7)) : 0 < wi f (w0 f 7) i ∧ wi f (w0 f 7) i < fsize f ∧ (i : Int) ≤ nch f (w0 f 7) ∧ wi f (w0 f 7) i = w0 f 7 + 1 + i := by
  have a := t.fd 7 (by omega)
  have b := wi_l t.v (by omega) a.2 t.l7.1 i hi
  have c := wi_ints t.v (by omega) a.2 t.l7.1 i (by omega) (fun j hj => (t.sg j (by omega)).1)
  exact ⟨by omega, b.2.1, by omega, c⟩
theorem x_isSigner {S : Sto} {f : F} {sc : Int} {L : Led} (h : XS S f sc L) (o : Int) (Q : ZQ) : zCall Cd 18 4 [(11, 11), (0, o)] S Q = Q S (0, zb1 (zany (fun j => decide (nt f (wi f (w0 f 7) j) = o)) (nc f (w0 f 7)).toNat 0)) := by
  have l7 := h.t.l7
  have sz := h.t.sz
  have k7 : S 113 7 = w0 f 7 := h.s.fl 7 (by omega)
  have a7 := h.t.fd 7 (by omega)
  have mn := fun Q => x_many h.d (w0 f 7) (by omega) a7.2 (by have := l7.1; omega) Q
  have lp : ∀ (c i : Nat), (i : Int) + c = nc f (w0 f 7) → zG Cd 18 (Cd 18 12) [(11, 11), (0, o), (0, w0 f 7), (0, (i : Int))] [] S Q = Q S (0, zb1 (zany (fun j => decide (nt f (wi f (w0 f 7) j) = o)) c i)) := by
    intro c
    induction c with
    | zero =>
      intro i hi
      rw [L18_12, zany, zb1_f]
      simp (disch := omega) only [bcd, true_and, and_true, and_self, if_true, if_false, ite_true, ite_false, reduceIte, Int.reduceEq, Int.reduceNe, Int.reduceLT, Int.reduceLE, Int.reduceAdd, Int.reduceSub, Int.reduceMul, Int.reduceNeg, Int.reduceMod, Int.reduceDiv, Int.reduceToNat, Nat.reduceAdd, Nat.reduceLeDiff, List.length_cons, List.length_nil, not_false_eq_true, not_true_eq_false, ne_eq, or_false, false_or, or_self, false_and, and_false, or_true, true_or, ite_self, Int.add_sub_cancel, Int.sub_add_cancel, b_lc1, b_lc2, b_lc3, b_lc4, b_lc5, up_eq, up_ei, up_n1, up_n2, W32i, W8i, W16i, W64i, if_ps, if_ng, and_tr, fil_n1, fil_in, fil_out, le_tt, le_ff, lt_tt, lt_ff, eq_tt, eq_ff, M18, mn]
    | succ c ih =>
      intro i hi
      have sw := h.t.sw i (by omega)
      have wt := fun Q => x_within h.d (w0 f 7) (i : Int) (by omega) a7.2 sw.2.2.1 (by omega) Q
      rw [show ((i : Int)).toNat = i by omega] at wt
      have vl := fun Q => x_value h.d (wi f (w0 f 7) i) (by omega) sw.2.1 Q
      simp only [if_pos (h.t.sg i (by omega)).1] at vl
      have I := ih (i + 1) (by omega)
      rw [show ((i + 1 : Nat) : Int) = (i : Int) + 1 by omega] at I
      rw [zany]
      by_cases q : nt f (wi f (w0 f 7) i) = o
      · rw [show decide (nt f (wi f (w0 f 7) i) = o) = true from decide_eq_true q, Bool.true_or, zb1_t, L18_12]
        simp (disch := omega) only [bcd, true_and, and_true, and_self, if_true, if_false, ite_true, ite_false, reduceIte, Int.reduceEq, Int.reduceNe, Int.reduceLT, Int.reduceLE, Int.reduceAdd, Int.reduceSub, Int.reduceMul, Int.reduceNeg, Int.reduceMod, Int.reduceDiv, Int.reduceToNat, Nat.reduceAdd, Nat.reduceLeDiff, List.length_cons, List.length_nil, not_false_eq_true, not_true_eq_false, ne_eq, or_false, false_or, or_self, false_and, and_false, or_true, true_or, ite_self, Int.add_sub_cancel, Int.sub_add_cancel, b_lc1, b_lc2, b_lc3, b_lc4, b_lc5, up_eq, up_ei, up_n1, up_n2, W32i, W8i, W16i, W64i, if_ps, if_ng, and_tr, fil_n1, fil_in, fil_out, le_tt, le_ff, lt_tt, lt_ff, eq_tt, eq_ff, M18, mn, wt, vl, q]
      · rw [show decide (nt f (wi f (w0 f 7) i) = o) = false from decide_eq_false q, Bool.false_or, ← I]
        conv => lhs; rw [L18_12]
        simp (disch := omega) only [bcd, true_and, and_true, and_self, if_true, if_false, ite_true, ite_false, reduceIte, Int.reduceEq, Int.reduceNe, Int.reduceLT, Int.reduceLE, Int.reduceAdd, Int.reduceSub, Int.reduceMul, Int.reduceNeg, Int.reduceMod, Int.reduceDiv, Int.reduceToNat, Nat.reduceAdd, Nat.reduceLeDiff, List.length_cons, List.length_nil, not_false_eq_true, not_true_eq_false, ne_eq, or_false, false_or, or_self, false_and, and_false, or_true, true_or, ite_self, Int.add_sub_cancel, Int.sub_add_cancel, b_lc1, b_lc2, b_lc3, b_lc4, b_lc5, up_eq, up_ei, up_n1, up_n2, W32i, W8i, W16i, W64i, if_ps, if_ng, and_tr, fil_n1, fil_in, fil_out, le_tt, le_ff, lt_tt, lt_ff, eq_tt, eq_ff, M18, mn, wt, vl, q]
  have := lp (nc f (w0 f 7)).toNat 0 (by omega)
  rw [show ((0 : Nat) : Int) = 0 by rfl] at this
  rw [← this]
  simp (disch := omega) only [bcd, true_and, and_true, and_self, if_true, if_false, ite_true, ite_false, reduceIte, Int.reduceEq, Int.reduceNe, Int.reduceLT, Int.reduceLE, Int.reduceAdd, Int.reduceSub, Int.reduceMul, Int.reduceNeg, Int.reduceMod, Int.reduceDiv, Int.reduceToNat, Nat.reduceAdd, Nat.reduceLeDiff, List.length_cons, List.length_nil, not_false_eq_true, not_true_eq_false, ne_eq, or_false, false_or, or_self, false_and, and_false, or_true, true_or, ite_self, Int.add_sub_cancel, Int.sub_add_cancel, b_lc1, b_lc2, b_lc3, b_lc4, b_lc5, up_eq, up_ei, up_n1, up_n2, W32i, W8i, W16i, W64i, if_ps, if_ng, and_tr, fil_n1, fil_in, fil_out, le_tt, le_ff, lt_tt, lt_ff, eq_tt, eq_ff, M18, M254, k7]
theorem x_isSigned {S : Sto} {f : F} {sc : Int} {L : Led} (h : XS S f sc L) (n : Int) (n0 : 0 ≤ n) (n1 : n < L.n) (Q : ZQ) : zCall Cd 17 2 [(11, 11), (0, n)] S Q = Q S (0, zb1 (sgn L f n)) := by
  have nn := h.w.n
  have ad := h.l.ad n n0 n1
  have iS := fun Q => x_isSigner h (L.ad n) Q
  unfold sgn
  by_cases q : 256 ≤ L.ad n
  · rw [show decide (256 ≤ L.ad n) = true from decide_eq_true q, Bool.true_or, zb1_t]
    simp (disch := omega) only [bcd, true_and, and_true, and_self, if_true, if_false, ite_true, ite_false, reduceIte, Int.reduceEq, Int.reduceNe, Int.reduceLT, Int.reduceLE, Int.reduceAdd, Int.reduceSub, Int.reduceMul, Int.reduceNeg, Int.reduceMod, Int.reduceDiv, Int.reduceToNat, Nat.reduceAdd, Nat.reduceLeDiff, List.length_cons, List.length_nil, not_false_eq_true, not_true_eq_false, ne_eq, or_false, false_or, or_self, false_and, and_false, or_true, true_or, ite_self, Int.add_sub_cancel, Int.sub_add_cancel, b_lc1, b_lc2, b_lc3, b_lc4, b_lc5, up_eq, up_ei, up_n1, up_n2, W32i, W8i, W16i, W64i, if_ps, if_ng, and_tr, fil_n1, fil_in, fil_out, le_tt, le_ff, lt_tt, lt_ff, eq_tt, eq_ff, M17, ad]
  · rw [show decide (256 ≤ L.ad n) = false from decide_eq_false q, Bool.false_or]
    cases z : zany (fun j => decide (nt f (wi f (w0 f 7) j) = L.ad n)) (nc f (w0 f 7)).toNat 0
    · simp only [z, zb1_f] at iS ⊢
      simp (disch := omega) only [bcd, true_and, and_true, and_self, if_true, if_false, ite_true, ite_false, reduceIte, Int.reduceEq, Int.reduceNe, Int.reduceLT, Int.reduceLE, Int.reduceAdd, Int.reduceSub, Int.reduceMul, Int.reduceNeg, Int.reduceMod, Int.reduceDiv, Int.reduceToNat, Nat.reduceAdd, Nat.reduceLeDiff, List.length_cons, List.length_nil, not_false_eq_true, not_true_eq_false, ne_eq, or_false, false_or, or_self, false_and, and_false, or_true, true_or, ite_self, Int.add_sub_cancel, Int.sub_add_cancel, b_lc1, b_lc2, b_lc3, b_lc4, b_lc5, up_eq, up_ei, up_n1, up_n2, W32i, W8i, W16i, W64i, if_ps, if_ng, and_tr, fil_n1, fil_in, fil_out, le_tt, le_ff, lt_tt, lt_ff, eq_tt, eq_ff, M17, ad, iS]
    · simp only [z, zb1_t] at iS ⊢
      simp (disch := omega) only [bcd, true_and, and_true, and_self, if_true, if_false, ite_true, ite_false, reduceIte, Int.reduceEq, Int.reduceNe, Int.reduceLT, Int.reduceLE, Int.reduceAdd, Int.reduceSub, Int.reduceMul, Int.reduceNeg, Int.reduceMod, Int.reduceDiv, Int.reduceToNat, Nat.reduceAdd, Nat.reduceLeDiff, List.length_cons, List.length_nil, not_false_eq_true, not_true_eq_false, ne_eq, or_false, false_or, or_self, false_and, and_false, or_true, true_or, ite_self, Int.add_sub_cancel, Int.sub_add_cancel, b_lc1, b_lc2, b_lc3, b_lc4, b_lc5, up_eq, up_ei, up_n1, up_n2, W32i, W8i, W16i, W64i, if_ps, if_ng, and_tr, fil_n1, fil_in, fil_out, le_tt, le_ff, lt_tt, lt_ff, eq_tt, eq_ff, M17, ad, iS]
theorem x_areSigned {S : Sto} {f : F} {sc : Int} {L : Led} (h : XS S f sc L) (th : there L f = true) (Q : ZQ) : zCall Cd 16 3 [(11, 11)] S Q = Q S (0, zb1 (sgd L f)) := by
  obtain ⟨t1, t2, t3, t4, t5⟩ := there_1 th
  have l0 := h.t.l0
  have l1 := h.t.l1
  have ni := fun Q => x_inputs h Q
  have nk := fun Q => x_collats h Q
  have lB : ∀ (c i : Nat) (b : Bool), (i : Int) + c = nc f (w0 f 1) → zG Cd 16 (Cd 16 42) [(11, 11), (0, zb1 b), (0, (i : Int))] [] S Q = Q S (0, zb1 (b && zall (fun i => sgn L f ((nt f (wi f (w0 f 1) i)))) c i)) := by
    intro c
    induction c with
    | zero =>
      intro i b hi
      rw [zall, Bool.and_true, L16_42]
      cases b <;> simp only [zb1_t, zb1_f] <;> simp (disch := omega) only [bcd, true_and, and_true, and_self, if_true, if_false, ite_true, ite_false, reduceIte, Int.reduceEq, Int.reduceNe, Int.reduceLT, Int.reduceLE, Int.reduceAdd, Int.reduceSub, Int.reduceMul, Int.reduceNeg, Int.reduceMod, Int.reduceDiv, Int.reduceToNat, Nat.reduceAdd, Nat.reduceLeDiff, List.length_cons, List.length_nil, not_false_eq_true, not_true_eq_false, ne_eq, or_false, false_or, or_self, false_and, and_false, or_true, true_or, ite_self, Int.add_sub_cancel, Int.sub_add_cancel, b_lc1, b_lc2, b_lc3, b_lc4, b_lc5, up_eq, up_ei, up_n1, up_n2, W32i, W8i, W16i, W64i, if_ps, if_ng, and_tr, fil_n1, fil_in, fil_out, le_tt, le_ff, lt_tt, lt_ff, eq_tt, eq_ff, M16, nk]
    | succ c ih =>
      intro i b hi
      have I := ih (i + 1) (b && sgn L f ((nt f (wi f (w0 f 1) i)))) (by omega)
      rw [show ((i + 1 : Nat) : Int) = (i : Int) + 1 by omega] at I
      have lv := t3 i (by omega)
      have xi := fun Q => x_collat h i (by omega) lv Q
      have xs := fun Q => x_isSigned h ((nt f (wi f (w0 f 1) i))) lv.1 lv.2.1 Q
      rw [zall, ← Bool.and_assoc, ← I]
      conv => lhs; rw [L16_42]
      cases z : sgn L f ((nt f (wi f (w0 f 1) i))) <;> simp only [z, zb1_t, zb1_f] at xs <;> cases b <;> simp only [zb1_t, zb1_f, Bool.and_true, Bool.and_false] <;> simp (disch := omega) only [bcd, true_and, and_true, and_self, if_true, if_false, ite_true, ite_false, reduceIte, Int.reduceEq, Int.reduceNe, Int.reduceLT, Int.reduceLE, Int.reduceAdd, Int.reduceSub, Int.reduceMul, Int.reduceNeg, Int.reduceMod, Int.reduceDiv, Int.reduceToNat, Nat.reduceAdd, Nat.reduceLeDiff, List.length_cons, List.length_nil, not_false_eq_true, not_true_eq_false, ne_eq, or_false, false_or, or_self, false_and, and_false, or_true, true_or, ite_self, Int.add_sub_cancel, Int.sub_add_cancel, b_lc1, b_lc2, b_lc3, b_lc4, b_lc5, up_eq, up_ei, up_n1, up_n2, W32i, W8i, W16i, W64i, if_ps, if_ng, and_tr, fil_n1, fil_in, fil_out, le_tt, le_ff, lt_tt, lt_ff, eq_tt, eq_ff, nk, xi, xs] <;> iterate 14 (try (simp only [M16]; simp (disch := omega) only [bcd, true_and, and_true, and_self, if_true, if_false, ite_true, ite_false, reduceIte, Int.reduceEq, Int.reduceNe, Int.reduceLT, Int.reduceLE, Int.reduceAdd, Int.reduceSub, Int.reduceMul, Int.reduceNeg, Int.reduceMod, Int.reduceDiv, Int.reduceToNat, Nat.reduceAdd, Nat.reduceLeDiff, List.length_cons, List.length_nil, not_false_eq_true, not_true_eq_false, ne_eq, or_false, false_or, or_self, false_and, and_false, or_true, true_or, ite_self, Int.add_sub_cancel, Int.sub_add_cancel, b_lc1, b_lc2, b_lc3, b_lc4, b_lc5, up_eq, up_ei, up_n1, up_n2, W32i, W8i, W16i, W64i, if_ps, if_ng, and_tr, fil_n1, fil_in, fil_out, le_tt, le_ff, lt_tt, lt_ff, eq_tt, eq_ff, nk]))
  have lA : ∀ (c i : Nat) (b : Bool), (i : Int) + c = nc f (w0 f 0) → zG Cd 16 (Cd 16 4) [(11, 11), (0, zb1 b), (0, (i : Int))] [] S Q = Q S (0, zb1 ((b && zall (fun i => sgn L f ((nt f (wi f (w0 f 0) i + 1)))) c i) && zall (fun i => sgn L f ((nt f (wi f (w0 f 1) i)))) (nc f (w0 f 1)).toNat 0)) := by
    intro c
    induction c with
    | zero =>
      intro i b hi
      have B := lB (nc f (w0 f 1)).toNat 0 b (by omega)
      rw [show ((0 : Nat) : Int) = 0 by rfl] at B
      rw [zall, Bool.and_true, ← B, L16_4]
      simp (disch := omega) only [bcd, true_and, and_true, and_self, if_true, if_false, ite_true, ite_false, reduceIte, Int.reduceEq, Int.reduceNe, Int.reduceLT, Int.reduceLE, Int.reduceAdd, Int.reduceSub, Int.reduceMul, Int.reduceNeg, Int.reduceMod, Int.reduceDiv, Int.reduceToNat, Nat.reduceAdd, Nat.reduceLeDiff, List.length_cons, List.length_nil, not_false_eq_true, not_true_eq_false, ne_eq, or_false, false_or, or_self, false_and, and_false, or_true, true_or, ite_self, Int.add_sub_cancel, Int.sub_add_cancel, b_lc1, b_lc2, b_lc3, b_lc4, b_lc5, up_eq, up_ei, up_n1, up_n2, W32i, W8i, W16i, W64i, if_ps, if_ng, and_tr, fil_n1, fil_in, fil_out, le_tt, le_ff, lt_tt, lt_ff, eq_tt, eq_ff, M16, ni]
    | succ c ih =>
      intro i b hi
      have I := ih (i + 1) (b && sgn L f ((nt f (wi f (w0 f 0) i + 1)))) (by omega)
      rw [show ((i + 1 : Nat) : Int) = (i : Int) + 1 by omega] at I
      have lv := t1 i (by omega)
      have xi := fun Q => x_input h i (by omega) lv Q
      have xs := fun Q => x_isSigned h ((nt f (wi f (w0 f 0) i + 1))) lv.1 lv.2.1 Q
      rw [zall, ← Bool.and_assoc, ← I]
      conv => lhs; rw [L16_4]
      cases z : sgn L f ((nt f (wi f (w0 f 0) i + 1))) <;> simp only [z, zb1_t, zb1_f] at xs <;> cases b <;> simp only [zb1_t, zb1_f, Bool.and_true, Bool.and_false] <;> simp (disch := omega) only [bcd, true_and, and_true, and_self, if_true, if_false, ite_true, ite_false, reduceIte, Int.reduceEq, Int.reduceNe, Int.reduceLT, Int.reduceLE, Int.reduceAdd, Int.reduceSub, Int.reduceMul, Int.reduceNeg, Int.reduceMod, Int.reduceDiv, Int.reduceToNat, Nat.reduceAdd, Nat.reduceLeDiff, List.length_cons, List.length_nil, not_false_eq_true, not_true_eq_false, ne_eq, or_false, false_or, or_self, false_and, and_false, or_true, true_or, ite_self, Int.add_sub_cancel, Int.sub_add_cancel, b_lc1, b_lc2, b_lc3, b_lc4, b_lc5, up_eq, up_ei, up_n1, up_n2, W32i, W8i, W16i, W64i, if_ps, if_ng, and_tr, fil_n1, fil_in, fil_out, le_tt, le_ff, lt_tt, lt_ff, eq_tt, eq_ff, ni, xi, xs] <;> iterate 14 (try (simp only [M16]; simp (disch := omega) only [bcd, true_and, and_true, and_self, if_true, if_false, ite_true, ite_false, reduceIte, Int.reduceEq, Int.reduceNe, Int.reduceLT, Int.reduceLE, Int.reduceAdd, Int.reduceSub, Int.reduceMul, Int.reduceNeg, Int.reduceMod, Int.reduceDiv, Int.reduceToNat, Nat.reduceAdd, Nat.reduceLeDiff, List.length_cons, List.length_nil, not_false_eq_true, not_true_eq_false, ne_eq, or_false, false_or, or_self, false_and, and_false, or_true, true_or, ite_self, Int.add_sub_cancel, Int.sub_add_cancel, b_lc1, b_lc2, b_lc3, b_lc4, b_lc5, up_eq, up_ei, up_n1, up_n2, W32i, W8i, W16i, W64i, if_ps, if_ng, and_tr, fil_n1, fil_in, fil_out, le_tt, le_ff, lt_tt, lt_ff, eq_tt, eq_ff, ni]))
  have A := lA (nc f (w0 f 0)).toNat 0 true (by omega)
  rw [show ((0 : Nat) : Int) = 0 by rfl, Bool.true_and, zb1_t] at A
  unfold sgd
  rw [← A]
  simp (disch := omega) only [bcd, true_and, and_true, and_self, if_true, if_false, ite_true, ite_false, reduceIte, Int.reduceEq, Int.reduceNe, Int.reduceLT, Int.reduceLE, Int.reduceAdd, Int.reduceSub, Int.reduceMul, Int.reduceNeg, Int.reduceMod, Int.reduceDiv, Int.reduceToNat, Nat.reduceAdd, Nat.reduceLeDiff, List.length_cons, List.length_nil, not_false_eq_true, not_true_eq_false, ne_eq, or_false, false_or, or_self, false_and, and_false, or_true, true_or, ite_self, Int.add_sub_cancel, Int.sub_add_cancel, b_lc1, b_lc2, b_lc3, b_lc4, b_lc5, up_eq, up_ei, up_n1, up_n2, W32i, W8i, W16i, W64i, if_ps, if_ng, and_tr, fil_n1, fil_in, fil_out, le_tt, le_ff, lt_tt, lt_ff, eq_tt, eq_ff, M16]
theorem x_needs {S : Sto} {f : F} {sc : Int} {L : Led} (h : XS S f sc L) (th : there L f = true) (Q : ZQ) : zCall Cd 19 3 [(11, 11)] S Q = Q S (0, zb1 (nds L f)) := by
  obtain ⟨t1, t2, t3, t4, t5⟩ := there_1 th
  have l0 := h.t.l0
  have l5 := h.t.l5
  have nn := h.w.n
  have ni := fun Q => x_inputs h Q
  have a5 := h.t.fd 5 (by omega)
  have k5 : S 113 5 = w0 f 5 := h.s.fl 5 (by omega)
  have mn := fun Q => x_many h.d (w0 f 5) (by omega) a5.2 (by have := l5.1; omega) Q
  have lp : ∀ (c i : Nat) (b : Bool), (i : Int) + c = nc f (w0 f 0) → zG Cd 19 (Cd 19 26) [(11, 11), (0, zb1 b), (0, (i : Int))] [] S Q = Q S (0, zb1 (b || zany (fun i => decide (256 ≤ L.ad ((nt f (wi f (w0 f 0) i + 1))))) c i)) := by
    intro c
    induction c with
    | zero =>
      intro i b hi
      rw [zany, Bool.or_false, L19_26]
      cases b <;> simp only [zb1_t, zb1_f] <;> simp (disch := omega) only [bcd, true_and, and_true, and_self, if_true, if_false, ite_true, ite_false, reduceIte, Int.reduceEq, Int.reduceNe, Int.reduceLT, Int.reduceLE, Int.reduceAdd, Int.reduceSub, Int.reduceMul, Int.reduceNeg, Int.reduceMod, Int.reduceDiv, Int.reduceToNat, Nat.reduceAdd, Nat.reduceLeDiff, List.length_cons, List.length_nil, not_false_eq_true, not_true_eq_false, ne_eq, or_false, false_or, or_self, false_and, and_false, or_true, true_or, ite_self, Int.add_sub_cancel, Int.sub_add_cancel, b_lc1, b_lc2, b_lc3, b_lc4, b_lc5, up_eq, up_ei, up_n1, up_n2, W32i, W8i, W16i, W64i, if_ps, if_ng, and_tr, fil_n1, fil_in, fil_out, le_tt, le_ff, lt_tt, lt_ff, eq_tt, eq_ff, M19, ni]
    | succ c ih =>
      intro i b hi
      have I := ih (i + 1) (b || decide (256 ≤ L.ad ((nt f (wi f (w0 f 0) i + 1))))) (by omega)
      rw [show ((i + 1 : Nat) : Int) = (i : Int) + 1 by omega] at I
      have lv := t1 i (by omega)
      have xi := fun Q => x_input h i (by omega) lv Q
      have ad := h.l.ad ((nt f (wi f (w0 f 0) i + 1))) lv.1 lv.2.1
      obtain ⟨v1, v2, v3⟩ := lv
      rw [zany, ← Bool.or_assoc, ← I]
      conv => lhs; rw [L19_26]
      by_cases q : 256 ≤ L.ad ((nt f (wi f (w0 f 0) i + 1)))
      · rw [show decide (256 ≤ L.ad ((nt f (wi f (w0 f 0) i + 1)))) = true from decide_eq_true q, Bool.or_true]
        cases b <;> simp only [zb1_t, zb1_f] <;> simp (disch := omega) only [bcd, true_and, and_true, and_self, if_true, if_false, ite_true, ite_false, reduceIte, Int.reduceEq, Int.reduceNe, Int.reduceLT, Int.reduceLE, Int.reduceAdd, Int.reduceSub, Int.reduceMul, Int.reduceNeg, Int.reduceMod, Int.reduceDiv, Int.reduceToNat, Nat.reduceAdd, Nat.reduceLeDiff, List.length_cons, List.length_nil, not_false_eq_true, not_true_eq_false, ne_eq, or_false, false_or, or_self, false_and, and_false, or_true, true_or, ite_self, Int.add_sub_cancel, Int.sub_add_cancel, b_lc1, b_lc2, b_lc3, b_lc4, b_lc5, up_eq, up_ei, up_n1, up_n2, W32i, W8i, W16i, W64i, if_ps, if_ng, and_tr, fil_n1, fil_in, fil_out, le_tt, le_ff, lt_tt, lt_ff, eq_tt, eq_ff, ni, xi, ad] <;> iterate 14 (try (simp only [M19]; simp (disch := omega) only [bcd, true_and, and_true, and_self, if_true, if_false, ite_true, ite_false, reduceIte, Int.reduceEq, Int.reduceNe, Int.reduceLT, Int.reduceLE, Int.reduceAdd, Int.reduceSub, Int.reduceMul, Int.reduceNeg, Int.reduceMod, Int.reduceDiv, Int.reduceToNat, Nat.reduceAdd, Nat.reduceLeDiff, List.length_cons, List.length_nil, not_false_eq_true, not_true_eq_false, ne_eq, or_false, false_or, or_self, false_and, and_false, or_true, true_or, ite_self, Int.add_sub_cancel, Int.sub_add_cancel, b_lc1, b_lc2, b_lc3, b_lc4, b_lc5, up_eq, up_ei, up_n1, up_n2, W32i, W8i, W16i, W64i, if_ps, if_ng, and_tr, fil_n1, fil_in, fil_out, le_tt, le_ff, lt_tt, lt_ff, eq_tt, eq_ff, ni]))
      · rw [show decide (256 ≤ L.ad ((nt f (wi f (w0 f 0) i + 1)))) = false from decide_eq_false q, Bool.or_false]
        cases b <;> simp only [zb1_t, zb1_f] <;> simp (disch := omega) only [bcd, true_and, and_true, and_self, if_true, if_false, ite_true, ite_false, reduceIte, Int.reduceEq, Int.reduceNe, Int.reduceLT, Int.reduceLE, Int.reduceAdd, Int.reduceSub, Int.reduceMul, Int.reduceNeg, Int.reduceMod, Int.reduceDiv, Int.reduceToNat, Nat.reduceAdd, Nat.reduceLeDiff, List.length_cons, List.length_nil, not_false_eq_true, not_true_eq_false, ne_eq, or_false, false_or, or_self, false_and, and_false, or_true, true_or, ite_self, Int.add_sub_cancel, Int.sub_add_cancel, b_lc1, b_lc2, b_lc3, b_lc4, b_lc5, up_eq, up_ei, up_n1, up_n2, W32i, W8i, W16i, W64i, if_ps, if_ng, and_tr, fil_n1, fil_in, fil_out, le_tt, le_ff, lt_tt, lt_ff, eq_tt, eq_ff, ni, xi, ad] <;> iterate 14 (try (simp only [M19]; simp (disch := omega) only [bcd, true_and, and_true, and_self, if_true, if_false, ite_true, ite_false, reduceIte, Int.reduceEq, Int.reduceNe, Int.reduceLT, Int.reduceLE, Int.reduceAdd, Int.reduceSub, Int.reduceMul, Int.reduceNeg, Int.reduceMod, Int.reduceDiv, Int.reduceToNat, Nat.reduceAdd, Nat.reduceLeDiff, List.length_cons, List.length_nil, not_false_eq_true, not_true_eq_false, ne_eq, or_false, false_or, or_self, false_and, and_false, or_true, true_or, ite_self, Int.add_sub_cancel, Int.sub_add_cancel, b_lc1, b_lc2, b_lc3, b_lc4, b_lc5, up_eq, up_ei, up_n1, up_n2, W32i, W8i, W16i, W64i, if_ps, if_ng, and_tr, fil_n1, fil_in, fil_out, le_tt, le_ff, lt_tt, lt_ff, eq_tt, eq_ff, ni]))
  have A := lp (nc f (w0 f 0)).toNat 0 (decide (0 < nc f (w0 f 5))) (by omega)
  rw [show ((0 : Nat) : Int) = 0 by rfl] at A
  unfold nds
  rw [← A]
  by_cases q : 0 < nc f (w0 f 5)
  · rw [show decide (0 < nc f (w0 f 5)) = true from decide_eq_true q, zb1_t]
    simp (disch := omega) only [bcd, true_and, and_true, and_self, if_true, if_false, ite_true, ite_false, reduceIte, Int.reduceEq, Int.reduceNe, Int.reduceLT, Int.reduceLE, Int.reduceAdd, Int.reduceSub, Int.reduceMul, Int.reduceNeg, Int.reduceMod, Int.reduceDiv, Int.reduceToNat, Nat.reduceAdd, Nat.reduceLeDiff, List.length_cons, List.length_nil, not_false_eq_true, not_true_eq_false, ne_eq, or_false, false_or, or_self, false_and, and_false, or_true, true_or, ite_self, Int.add_sub_cancel, Int.sub_add_cancel, b_lc1, b_lc2, b_lc3, b_lc4, b_lc5, up_eq, up_ei, up_n1, up_n2, W32i, W8i, W16i, W64i, if_ps, if_ng, and_tr, fil_n1, fil_in, fil_out, le_tt, le_ff, lt_tt, lt_ff, eq_tt, eq_ff, M19, M254, k5, mn]
  · rw [show decide (0 < nc f (w0 f 5)) = false from decide_eq_false q, zb1_f]
    simp (disch := omega) only [bcd, true_and, and_true, and_self, if_true, if_false, ite_true, ite_false, reduceIte, Int.reduceEq, Int.reduceNe, Int.reduceLT, Int.reduceLE, Int.reduceAdd, Int.reduceSub, Int.reduceMul, Int.reduceNeg, Int.reduceMod, Int.reduceDiv, Int.reduceToNat, Nat.reduceAdd, Nat.reduceLeDiff, List.length_cons, List.length_nil, not_false_eq_true, not_true_eq_false, ne_eq, or_false, false_or, or_self, false_and, and_false, or_true, true_or, ite_self, Int.add_sub_cancel, Int.sub_add_cancel, b_lc1, b_lc2, b_lc3, b_lc4, b_lc5, up_eq, up_ei, up_n1, up_n2, W32i, W8i, W16i, W64i, if_ps, if_ng, and_tr, fil_n1, fil_in, fil_out, le_tt, le_ff, lt_tt, lt_ff, eq_tt, eq_ff, M19, M254, k5, mn]
theorem cBs_b {L : Led} {f : F} (w : LW L) (th : there L f = true) (i : Nat) (hi : (i : Int) ≤ nc f (w0 f 1)) : 0 ≤ cBs L f i ∧ cBs L f i ≤ 4611686018427387904 := by
  obtain ⟨t1, t2, t3, t4, t5⟩ := there_1 th
  have nn := w.n
  constructor
  · have : ∀ j : Nat, j ≤ i → 0 ≤ cBs L f j := by
      intro j
      induction j with
      | zero => intro _; simp [cBs]
      | succ j ih =>
        intro hj
        have lv := t3 j (by omega)
        have := (w.ow _ lv.1 lv.2.1).amt0 0 0
        have := ih (by omega)
        rw [cBs]; omega
    exact this i (by omega)
  · have a := w.totb' 0 0
    have b : cBs L f i ≤ L.tot 0 0 := by
      unfold Led.tot
      rw [ztt_zsum]
      apply zsum_sel (fun j => (nt f (wi f (w0 f 1) j))) i _ (fun n x y => by
        show 0 ≤ (if L.sp n < 0 then L.amt 0 0 n else 0)
        split
        · exact (w.ow n x (by omega)).amt0 0 0
        · omega) (fun j hj => ⟨(t3 j (by omega)).1, by have := (t3 j (by omega)).2.1; omega⟩) (fun j k x y => t4 j k x (by omega)) (cBs L f) rfl
      intro j hj
      show cBs L f j + L.amt 0 0 ((nt f (wi f (w0 f 1) j))) = cBs L f j + (if L.sp ((nt f (wi f (w0 f 1) j))) < 0 then L.amt 0 0 ((nt f (wi f (w0 f 1) j))) else 0)
      rw [if_pos (t3 j (by omega)).2.2]
    omega
