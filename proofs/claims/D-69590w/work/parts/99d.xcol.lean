-- uses: 99c 98
theorem x_cbase {S : Sto} {f : F} {sc : Int} {L : Led} (h : XS S f sc L) (th : there L f = true) (Q : ZQ) : zCall Cd 21 4 [(11, 11)] S Q = Q S (1, cBs L f (nc f (w0 f 1)).toNat) := by
  obtain ⟨t1, t2, t3, t4, t5⟩ := there_1 th
  have l1 := h.t.l1
  have nn := h.w.n
  have nk := fun Q => x_collats h Q
  have lp : ∀ (c i : Nat), (i : Int) + c = nc f (w0 f 1) → zG Cd 21 (Cd 21 4) [(11, 11), (1, cBs L f i), (9, 0), (0, (i : Int))] [] S Q = Q S (1, cBs L f (nc f (w0 f 1)).toNat) := by
    intro c
    induction c with
    | zero =>
      intro i hi
      rw [L21_4, show (nc f (w0 f 1)).toNat = i by omega]
      simp (disch := omega) only [bcd, true_and, and_true, and_self, if_true, if_false, ite_true, ite_false, reduceIte, Int.reduceEq, Int.reduceNe, Int.reduceLT, Int.reduceLE, Int.reduceAdd, Int.reduceSub, Int.reduceMul, Int.reduceNeg, Int.reduceMod, Int.reduceDiv, Int.reduceToNat, Nat.reduceAdd, Nat.reduceLeDiff, List.length_cons, List.length_nil, not_false_eq_true, not_true_eq_false, ne_eq, or_false, false_or, or_self, false_and, and_false, or_true, true_or, ite_self, Int.add_sub_cancel, Int.sub_add_cancel, b_lc1, b_lc2, b_lc3, b_lc4, b_lc5, up_eq, up_ei, up_n1, up_n2, W32i, W8i, W16i, W64i, if_ps, if_ng, and_tr, fil_n1, fil_in, fil_out, le_tt, le_ff, lt_tt, lt_ff, eq_tt, eq_ff, M21, nk]
    | succ c ih =>
      intro i hi
      have I := ih (i + 1) (by omega)
      rw [show ((i + 1 : Nat) : Int) = (i : Int) + 1 by omega] at I
      have lv := t3 i (by omega)
      have xi := fun Q => x_collat h i (by omega) lv Q
      have kd := (h.w.ow _ lv.1 lv.2.1).kd
      have xk := h.l.kd _ lv.1 lv.2.1
      have am := fun Q => x_amt S Q ((nt f (wi f (w0 f 1) i))) 0 0 lv.1 (by have := lv.2.1; omega) (by omega) (by omega)
      simp only [h.l.amt h.w 0 0 _ lv.1 lv.2.1] at am
      have b0 := cBs_b h.w th i (by omega)
      have b1 := cBs_b h.w th (i + 1) (by omega)
      rw [cBs] at I b1
      rw [← I]
      conv => lhs; rw [L21_4]
      simp (disch := omega) only [bcd, true_and, and_true, and_self, if_true, if_false, ite_true, ite_false, reduceIte, Int.reduceEq, Int.reduceNe, Int.reduceLT, Int.reduceLE, Int.reduceAdd, Int.reduceSub, Int.reduceMul, Int.reduceNeg, Int.reduceMod, Int.reduceDiv, Int.reduceToNat, Nat.reduceAdd, Nat.reduceLeDiff, List.length_cons, List.length_nil, not_false_eq_true, not_true_eq_false, ne_eq, or_false, false_or, or_self, false_and, and_false, or_true, true_or, ite_self, Int.add_sub_cancel, Int.sub_add_cancel, b_lc1, b_lc2, b_lc3, b_lc4, b_lc5, up_eq, up_ei, up_n1, up_n2, W32i, W8i, W16i, W64i, if_ps, if_ng, and_tr, fil_n1, fil_in, fil_out, le_tt, le_ff, lt_tt, lt_ff, eq_tt, eq_ff, nk, xi, am]
  have A := lp (nc f (w0 f 1)).toNat 0 (by omega)
  rw [show ((0 : Nat) : Int) = 0 by rfl, cBs] at A
  rw [← A]
  simp (disch := omega) only [bcd, true_and, and_true, and_self, if_true, if_false, ite_true, ite_false, reduceIte, Int.reduceEq, Int.reduceNe, Int.reduceLT, Int.reduceLE, Int.reduceAdd, Int.reduceSub, Int.reduceMul, Int.reduceNeg, Int.reduceMod, Int.reduceDiv, Int.reduceToNat, Nat.reduceAdd, Nat.reduceLeDiff, List.length_cons, List.length_nil, not_false_eq_true, not_true_eq_false, ne_eq, or_false, false_or, or_self, false_and, and_false, or_true, true_or, ite_self, Int.add_sub_cancel, Int.sub_add_cancel, b_lc1, b_lc2, b_lc3, b_lc4, b_lc5, up_eq, up_ei, up_n1, up_n2, W32i, W8i, W16i, W64i, if_ps, if_ng, and_tr, fil_n1, fil_in, fil_out, le_tt, le_ff, lt_tt, lt_ff, eq_tt, eq_ff, M21]
theorem x_isColl {S : Sto} {f : F} {sc : Int} {L : Led} (h : XS S f sc L) (th : there L f = true) (Q : ZQ) : zCall Cd 20 4 [(11, 11)] S Q = Q S (0, zb1 (cvd L f)) := by
  obtain ⟨t1, t2, t3, t4, t5⟩ := there_1 th
  have l1 := h.t.l1
  have nn := h.w.n
  have nk := fun Q => x_collats h Q
  have k3 : S 113 3 = w0 f 3 := h.s.fl 3 (by omega)
  have a3 := h.t.fd 3 (by omega)
  have fe := h.t.fe
  have vl := fun Q => x_value h.d (w0 f 3) (by omega) a3.2 Q
  simp only [if_pos fe.1] at vl
  obtain ⟨_, fe1, fe2⟩ := fe
  have cb := fun Q => x_cbase h th Q
  have b0 := cBs_b h.w th (nc f (w0 f 1)).toNat (by omega)
  have lp : ∀ (c i : Nat) (b : Bool) (y : AV), (i : Int) + c = nc f (w0 f 1) → zG Cd 20 (Cd 20 15) [(11, 11), (0, zb1 b), (0, (i : Int)), y] [] S Q = Q S (0, zb1 ((b && zall (cvk L f) c i) && decide ((nt f (w0 f 3)) ≤ cBs L f (nc f (w0 f 1)).toNat - (nt f (w0 f 3))))) := by
    intro c
    induction c with
    | zero =>
      intro i b y hi
      rw [zall, Bool.and_true, L20_15]
      by_cases q : (nt f (w0 f 3)) ≤ cBs L f (nc f (w0 f 1)).toNat - (nt f (w0 f 3))
      · rw [show decide ((nt f (w0 f 3)) ≤ cBs L f (nc f (w0 f 1)).toNat - (nt f (w0 f 3))) = true from decide_eq_true q, Bool.and_true]
        cases b <;> simp only [zb1_t, zb1_f] <;> simp (disch := omega) only [bcd, true_and, and_true, and_self, if_true, if_false, ite_true, ite_false, reduceIte, Int.reduceEq, Int.reduceNe, Int.reduceLT, Int.reduceLE, Int.reduceAdd, Int.reduceSub, Int.reduceMul, Int.reduceNeg, Int.reduceMod, Int.reduceDiv, Int.reduceToNat, Nat.reduceAdd, Nat.reduceLeDiff, List.length_cons, List.length_nil, not_false_eq_true, not_true_eq_false, ne_eq, or_false, false_or, or_self, false_and, and_false, or_true, true_or, ite_self, Int.add_sub_cancel, Int.sub_add_cancel, b_lc1, b_lc2, b_lc3, b_lc4, b_lc5, up_eq, up_ei, up_n1, up_n2, W32i, W8i, W16i, W64i, if_ps, if_ng, and_tr, fil_n1, fil_in, fil_out, le_tt, le_ff, lt_tt, lt_ff, eq_tt, eq_ff, M20, M254, nk, k3, vl, cb]
      · rw [show decide ((nt f (w0 f 3)) ≤ cBs L f (nc f (w0 f 1)).toNat - (nt f (w0 f 3))) = false from decide_eq_false q, Bool.and_false]
        cases b <;> simp only [zb1_t, zb1_f] <;> simp (disch := omega) only [bcd, true_and, and_true, and_self, if_true, if_false, ite_true, ite_false, reduceIte, Int.reduceEq, Int.reduceNe, Int.reduceLT, Int.reduceLE, Int.reduceAdd, Int.reduceSub, Int.reduceMul, Int.reduceNeg, Int.reduceMod, Int.reduceDiv, Int.reduceToNat, Nat.reduceAdd, Nat.reduceLeDiff, List.length_cons, List.length_nil, not_false_eq_true, not_true_eq_false, ne_eq, or_false, false_or, or_self, false_and, and_false, or_true, true_or, ite_self, Int.add_sub_cancel, Int.sub_add_cancel, b_lc1, b_lc2, b_lc3, b_lc4, b_lc5, up_eq, up_ei, up_n1, up_n2, W32i, W8i, W16i, W64i, if_ps, if_ng, and_tr, fil_n1, fil_in, fil_out, le_tt, le_ff, lt_tt, lt_ff, eq_tt, eq_ff, M20, M254, nk, k3, vl, cb]
    | succ c ih =>
      intro i b y hi
      have I := ih (i + 1) (b && cvk L f i) (0, (nt f (wi f (w0 f 1) i))) (by omega)
      rw [show ((i + 1 : Nat) : Int) = (i : Int) + 1 by omega] at I
      have lv := t3 i (by omega)
      have xi := fun Q => x_collat h i (by omega) lv Q
      have ow := h.w.ow _ lv.1 lv.2.1
      have kd := ow.kd
      have xk := h.l.kd _ lv.1 lv.2.1
      have ad := h.l.ad _ lv.1 lv.2.1
      have po := h.l.po ((nt f (wi f (w0 f 1) i))) 0 lv.1 lv.2.1 (by omega) (by omega)
      rw [Int.add_zero] at po
      obtain ⟨v1, v2, v3⟩ := lv
      rw [zall, ← Bool.and_assoc, ← I]
      conv => lhs; rw [L20_15]
      by_cases q1 : L.ad ((nt f (wi f (w0 f 1) i))) < 256
      · by_cases q2 : L.kd ((nt f (wi f (w0 f 1) i))) = 1
        · by_cases q3 : L.po (8 * (nt f (wi f (w0 f 1) i))) = 0
          · rw [show cvk L f i = true from decide_eq_true ⟨q1, q2, q3⟩, Bool.and_true]
            cases b <;> simp only [zb1_t, zb1_f] <;> simp (disch := omega) only [bcd, true_and, and_true, and_self, if_true, if_false, ite_true, ite_false, reduceIte, Int.reduceEq, Int.reduceNe, Int.reduceLT, Int.reduceLE, Int.reduceAdd, Int.reduceSub, Int.reduceMul, Int.reduceNeg, Int.reduceMod, Int.reduceDiv, Int.reduceToNat, Nat.reduceAdd, Nat.reduceLeDiff, List.length_cons, List.length_nil, not_false_eq_true, not_true_eq_false, ne_eq, or_false, false_or, or_self, false_and, and_false, or_true, true_or, ite_self, Int.add_sub_cancel, Int.sub_add_cancel, b_lc1, b_lc2, b_lc3, b_lc4, b_lc5, up_eq, up_ei, up_n1, up_n2, W32i, W8i, W16i, W64i, if_ps, if_ng, and_tr, fil_n1, fil_in, fil_out, le_tt, le_ff, lt_tt, lt_ff, eq_tt, eq_ff, nk, xi, ad, xk, po, q2, q3] <;> iterate 14 (try (simp only [M20]; simp (disch := omega) only [bcd, true_and, and_true, and_self, if_true, if_false, ite_true, ite_false, reduceIte, Int.reduceEq, Int.reduceNe, Int.reduceLT, Int.reduceLE, Int.reduceAdd, Int.reduceSub, Int.reduceMul, Int.reduceNeg, Int.reduceMod, Int.reduceDiv, Int.reduceToNat, Nat.reduceAdd, Nat.reduceLeDiff, List.length_cons, List.length_nil, not_false_eq_true, not_true_eq_false, ne_eq, or_false, false_or, or_self, false_and, and_false, or_true, true_or, ite_self, Int.add_sub_cancel, Int.sub_add_cancel, b_lc1, b_lc2, b_lc3, b_lc4, b_lc5, up_eq, up_ei, up_n1, up_n2, W32i, W8i, W16i, W64i, if_ps, if_ng, and_tr, fil_n1, fil_in, fil_out, le_tt, le_ff, lt_tt, lt_ff, eq_tt, eq_ff, nk]))
          · rw [show cvk L f i = false from decide_eq_false (fun x => q3 x.2.2), Bool.and_false]
            cases b <;> simp only [zb1_t, zb1_f] <;> simp (disch := omega) only [bcd, true_and, and_true, and_self, if_true, if_false, ite_true, ite_false, reduceIte, Int.reduceEq, Int.reduceNe, Int.reduceLT, Int.reduceLE, Int.reduceAdd, Int.reduceSub, Int.reduceMul, Int.reduceNeg, Int.reduceMod, Int.reduceDiv, Int.reduceToNat, Nat.reduceAdd, Nat.reduceLeDiff, List.length_cons, List.length_nil, not_false_eq_true, not_true_eq_false, ne_eq, or_false, false_or, or_self, false_and, and_false, or_true, true_or, ite_self, Int.add_sub_cancel, Int.sub_add_cancel, b_lc1, b_lc2, b_lc3, b_lc4, b_lc5, up_eq, up_ei, up_n1, up_n2, W32i, W8i, W16i, W64i, if_ps, if_ng, and_tr, fil_n1, fil_in, fil_out, le_tt, le_ff, lt_tt, lt_ff, eq_tt, eq_ff, nk, xi, ad, xk, po, q2, q3] <;> iterate 14 (try (simp only [M20]; simp (disch := omega) only [bcd, true_and, and_true, and_self, if_true, if_false, ite_true, ite_false, reduceIte, Int.reduceEq, Int.reduceNe, Int.reduceLT, Int.reduceLE, Int.reduceAdd, Int.reduceSub, Int.reduceMul, Int.reduceNeg, Int.reduceMod, Int.reduceDiv, Int.reduceToNat, Nat.reduceAdd, Nat.reduceLeDiff, List.length_cons, List.length_nil, not_false_eq_true, not_true_eq_false, ne_eq, or_false, false_or, or_self, false_and, and_false, or_true, true_or, ite_self, Int.add_sub_cancel, Int.sub_add_cancel, b_lc1, b_lc2, b_lc3, b_lc4, b_lc5, up_eq, up_ei, up_n1, up_n2, W32i, W8i, W16i, W64i, if_ps, if_ng, and_tr, fil_n1, fil_in, fil_out, le_tt, le_ff, lt_tt, lt_ff, eq_tt, eq_ff, nk]))
        · rw [show cvk L f i = false from decide_eq_false (fun x => q2 x.2.1), Bool.and_false]
          cases b <;> simp only [zb1_t, zb1_f] <;> simp (disch := omega) only [bcd, true_and, and_true, and_self, if_true, if_false, ite_true, ite_false, reduceIte, Int.reduceEq, Int.reduceNe, Int.reduceLT, Int.reduceLE, Int.reduceAdd, Int.reduceSub, Int.reduceMul, Int.reduceNeg, Int.reduceMod, Int.reduceDiv, Int.reduceToNat, Nat.reduceAdd, Nat.reduceLeDiff, List.length_cons, List.length_nil, not_false_eq_true, not_true_eq_false, ne_eq, or_false, false_or, or_self, false_and, and_false, or_true, true_or, ite_self, Int.add_sub_cancel, Int.sub_add_cancel, b_lc1, b_lc2, b_lc3, b_lc4, b_lc5, up_eq, up_ei, up_n1, up_n2, W32i, W8i, W16i, W64i, if_ps, if_ng, and_tr, fil_n1, fil_in, fil_out, le_tt, le_ff, lt_tt, lt_ff, eq_tt, eq_ff, nk, xi, ad, xk, po, q2] <;> iterate 14 (try (simp only [M20]; simp (disch := omega) only [bcd, true_and, and_true, and_self, if_true, if_false, ite_true, ite_false, reduceIte, Int.reduceEq, Int.reduceNe, Int.reduceLT, Int.reduceLE, Int.reduceAdd, Int.reduceSub, Int.reduceMul, Int.reduceNeg, Int.reduceMod, Int.reduceDiv, Int.reduceToNat, Nat.reduceAdd, Nat.reduceLeDiff, List.length_cons, List.length_nil, not_false_eq_true, not_true_eq_false, ne_eq, or_false, false_or, or_self, false_and, and_false, or_true, true_or, ite_self, Int.add_sub_cancel, Int.sub_add_cancel, b_lc1, b_lc2, b_lc3, b_lc4, b_lc5, up_eq, up_ei, up_n1, up_n2, W32i, W8i, W16i, W64i, if_ps, if_ng, and_tr, fil_n1, fil_in, fil_out, le_tt, le_ff, lt_tt, lt_ff, eq_tt, eq_ff, nk]))
      · rw [show cvk L f i = false from decide_eq_false (fun x => q1 x.1), Bool.and_false]
        cases b <;> simp only [zb1_t, zb1_f] <;> simp (disch := omega) only [bcd, true_and, and_true, and_self, if_true, if_false, ite_true, ite_false, reduceIte, Int.reduceEq, Int.reduceNe, Int.reduceLT, Int.reduceLE, Int.reduceAdd, Int.reduceSub, Int.reduceMul, Int.reduceNeg, Int.reduceMod, Int.reduceDiv, Int.reduceToNat, Nat.reduceAdd, Nat.reduceLeDiff, List.length_cons, List.length_nil, not_false_eq_true, not_true_eq_false, ne_eq, or_false, false_or, or_self, false_and, and_false, or_true, true_or, ite_self, Int.add_sub_cancel, Int.sub_add_cancel, b_lc1, b_lc2, b_lc3, b_lc4, b_lc5, up_eq, up_ei, up_n1, up_n2, W32i, W8i, W16i, W64i, if_ps, if_ng, and_tr, fil_n1, fil_in, fil_out, le_tt, le_ff, lt_tt, lt_ff, eq_tt, eq_ff, nk, xi, ad, xk, po] <;> iterate 14 (try (simp only [M20]; simp (disch := omega) only [bcd, true_and, and_true, and_self, if_true, if_false, ite_true, ite_false, reduceIte, Int.reduceEq, Int.reduceNe, Int.reduceLT, Int.reduceLE, Int.reduceAdd, Int.reduceSub, Int.reduceMul, Int.reduceNeg, Int.reduceMod, Int.reduceDiv, Int.reduceToNat, Nat.reduceAdd, Nat.reduceLeDiff, List.length_cons, List.length_nil, not_false_eq_true, not_true_eq_false, ne_eq, or_false, false_or, or_self, false_and, and_false, or_true, true_or, ite_self, Int.add_sub_cancel, Int.sub_add_cancel, b_lc1, b_lc2, b_lc3, b_lc4, b_lc5, up_eq, up_ei, up_n1, up_n2, W32i, W8i, W16i, W64i, if_ps, if_ng, and_tr, fil_n1, fil_in, fil_out, le_tt, le_ff, lt_tt, lt_ff, eq_tt, eq_ff, nk]))
  have A := lp (nc f (w0 f 1)).toNat 0 (decide (0 < nc f (w0 f 1))) (9, 0) (by omega)
  rw [show ((0 : Nat) : Int) = 0 by rfl] at A
  unfold cvd
  rw [← A]
  by_cases q : 0 < nc f (w0 f 1)
  · rw [show decide (0 < nc f (w0 f 1)) = true from decide_eq_true q, zb1_t]
    simp (disch := omega) only [bcd, true_and, and_true, and_self, if_true, if_false, ite_true, ite_false, reduceIte, Int.reduceEq, Int.reduceNe, Int.reduceLT, Int.reduceLE, Int.reduceAdd, Int.reduceSub, Int.reduceMul, Int.reduceNeg, Int.reduceMod, Int.reduceDiv, Int.reduceToNat, Nat.reduceAdd, Nat.reduceLeDiff, List.length_cons, List.length_nil, not_false_eq_true, not_true_eq_false, ne_eq, or_false, false_or, or_self, false_and, and_false, or_true, true_or, ite_self, Int.add_sub_cancel, Int.sub_add_cancel, b_lc1, b_lc2, b_lc3, b_lc4, b_lc5, up_eq, up_ei, up_n1, up_n2, W32i, W8i, W16i, W64i, if_ps, if_ng, and_tr, fil_n1, fil_in, fil_out, le_tt, le_ff, lt_tt, lt_ff, eq_tt, eq_ff, M20, nk]
  · rw [show decide (0 < nc f (w0 f 1)) = false from decide_eq_false q, zb1_f]
    simp (disch := omega) only [bcd, true_and, and_true, and_self, if_true, if_false, ite_true, ite_false, reduceIte, Int.reduceEq, Int.reduceNe, Int.reduceLT, Int.reduceLE, Int.reduceAdd, Int.reduceSub, Int.reduceMul, Int.reduceNeg, Int.reduceMod, Int.reduceDiv, Int.reduceToNat, Nat.reduceAdd, Nat.reduceLeDiff, List.length_cons, List.length_nil, not_false_eq_true, not_true_eq_false, ne_eq, or_false, false_or, or_self, false_and, and_false, or_true, true_or, ite_self, Int.add_sub_cancel, Int.sub_add_cancel, b_lc1, b_lc2, b_lc3, b_lc4, b_lc5, up_eq, up_ei, up_n1, up_n2, W32i, W8i, W16i, W64i, if_ps, if_ng, and_tr, fil_n1, fil_in, fil_out, le_tt, le_ff, lt_tt, lt_ff, eq_tt, eq_ff, M20, nk]
def bsO (f : F) (i : Nat) : Int := if nt f (wi f (wi f ((wi f (w0 f 2) i)) 1) 0 + 1) = 0 then nt f (wi f (wi f ((wi f (w0 f 2) i)) 1) 0 + 3) else 0
theorem x_baseOf {S : Sto} {f : F} {sc : Int} {L : Led} (h : XS S f sc L) (i : Nat) (hi : (i : Int) < nc f (w0 f 2)) : ∃ S', zR 22 4 [(11, 11), (0, (i : Int))] S S' (1, bsO f i) ∧ xsc S S' := by
  have t := h.t
  have sz := t.sz
  have l2 := t.l2
  have a2 := t.fd 2 (by omega)
  have k2 : S 113 2 = w0 f 2 := h.s.fl 2 (by omega)
  have of1 := t.of i hi
  have n0 := of1.n0
  have nk := of1.nk
  have ol := of1.l2
  have ol0 := of1.l0
  have wa := wi_l t.v (by omega) a2.2 l2.1 i hi
  have w1 := fun Q => x_within h.d (w0 f 2) (i : Int) (by omega) a2.2 (by omega) (by omega) Q
  rw [show ((i : Int)).toNat = i by omega] at w1
  have w2 := fun Q => x_within h.d ((wi f (w0 f 2) i)) 1 (by omega) n0.2 (by omega) (by omega) Q
  rw [show (1 : Int).toNat = 1 by rfl] at w2
  have cf := of1.co 0 (by omega)
  have cr := fun Q => x_coR h.d (by omega) ol0.2 ol.1 0 (by omega) cf Q
  rw [show ((0 : Nat) : Int) = 0 by rfl] at cr
  obtain ⟨x1, x2, x3⟩ := xco_1 S f (wi f (wi f ((wi f (w0 f 2) i)) 1) 0)
  have xc := xsc.co S f (wi f (wi f ((wi f (w0 f 2) i)) 1) 0)
  obtain ⟨T, hT⟩ : ∃ T, xco S f (wi f (wi f ((wi f (w0 f 2) i)) 1) 0) = T := ⟨_, rfl⟩
  rw [hT] at x1 x2 x3 xc cr
  refine ⟨T, fun Q => ?_, xc⟩
  unfold bsO
  by_cases q : nt f (wi f (wi f ((wi f (w0 f 2) i)) 1) 0 + 1) = 0
  · rw [if_pos q]
    simp (disch := omega) only [bcd, true_and, and_true, and_self, if_true, if_false, ite_true, ite_false, reduceIte, Int.reduceEq, Int.reduceNe, Int.reduceLT, Int.reduceLE, Int.reduceAdd, Int.reduceSub, Int.reduceMul, Int.reduceNeg, Int.reduceMod, Int.reduceDiv, Int.reduceToNat, Nat.reduceAdd, Nat.reduceLeDiff, List.length_cons, List.length_nil, not_false_eq_true, not_true_eq_false, ne_eq, or_false, false_or, or_self, false_and, and_false, or_true, true_or, ite_self, Int.add_sub_cancel, Int.sub_add_cancel, b_lc1, b_lc2, b_lc3, b_lc4, b_lc5, up_eq, up_ei, up_n1, up_n2, W32i, W8i, W16i, W64i, if_ps, if_ng, and_tr, fil_n1, fil_in, fil_out, le_tt, le_ff, lt_tt, lt_ff, eq_tt, eq_ff, M22, M254, k2, w1, w2, cr, x1, x3, q]
  · rw [if_neg q]
    simp (disch := omega) only [bcd, true_and, and_true, and_self, if_true, if_false, ite_true, ite_false, reduceIte, Int.reduceEq, Int.reduceNe, Int.reduceLT, Int.reduceLE, Int.reduceAdd, Int.reduceSub, Int.reduceMul, Int.reduceNeg, Int.reduceMod, Int.reduceDiv, Int.reduceToNat, Nat.reduceAdd, Nat.reduceLeDiff, List.length_cons, List.length_nil, not_false_eq_true, not_true_eq_false, ne_eq, or_false, false_or, or_self, false_and, and_false, or_true, true_or, ite_self, Int.add_sub_cancel, Int.sub_add_cancel, b_lc1, b_lc2, b_lc3, b_lc4, b_lc5, up_eq, up_ei, up_n1, up_n2, W32i, W8i, W16i, W64i, if_ps, if_ng, and_tr, fil_n1, fil_in, fil_out, le_tt, le_ff, lt_tt, lt_ff, eq_tt, eq_ff, M22, M254, k2, w1, w2, cr, x1, x3, q]
def ctxN (f : F) (s : Int) : Int := 11 + nc f (w0 f 7) + 4 * nc f (w0 f 5) + 4 * s + 4 * nc f (w0 f 2)
theorem x_ctxN {S : Sto} {f : F} {sc r n : Int} {L : Led} {g : Int → Int → Int} (h : XS S f sc L) (hr : S 109 0 = r) (b : BG S r n g) (Q : ZQ) : zCall Cd 23 1 [(11, 11)] S Q = Q S (0, ctxN f n) := by
  have t := h.t
  have l2 := t.l2
  have l5 := t.l5
  have l7 := t.l7
  have a2 := t.fd 2 (by omega)
  have a5 := t.fd 5 (by omega)
  have a7 := t.fd 7 (by omega)
  have k2 : S 113 2 = w0 f 2 := h.s.fl 2 (by omega)
  have k5 : S 113 5 = w0 f 5 := h.s.fl 5 (by omega)
  have k7 : S 113 7 = w0 f 7 := h.s.fl 7 (by omega)
  have m2 := fun Q => x_many h.d (w0 f 2) (by omega) a2.2 (by have := l2.1; omega) Q
  have m5 := fun Q => x_many h.d (w0 f 5) (by omega) a5.2 (by have := l5.1; omega) Q
  have m7 := fun Q => x_many h.d (w0 f 7) (by omega) a7.2 (by have := l7.1; omega) Q
  have hr1 := b.hr
  have n1 := b.n1
  have n0 := b.ks.n0
  have sz := b.sz
  have bb := fun Q => b_bag (S := S) (k := 0) (by omega) (by omega) hr hr1 Q
  unfold ctxN
  simp (disch := omega) only [bcd, true_and, and_true, and_self, if_true, if_false, ite_true, ite_false, reduceIte, Int.reduceEq, Int.reduceNe, Int.reduceLT, Int.reduceLE, Int.reduceAdd, Int.reduceSub, Int.reduceMul, Int.reduceNeg, Int.reduceMod, Int.reduceDiv, Int.reduceToNat, Nat.reduceAdd, Nat.reduceLeDiff, List.length_cons, List.length_nil, not_false_eq_true, not_true_eq_false, ne_eq, or_false, false_or, or_self, false_and, and_false, or_true, true_or, ite_self, Int.add_sub_cancel, Int.sub_add_cancel, b_lc1, b_lc2, b_lc3, b_lc4, b_lc5, up_eq, up_ei, up_n1, up_n2, W32i, W8i, W16i, W64i, if_ps, if_ng, and_tr, fil_n1, fil_in, fil_out, le_tt, le_ff, lt_tt, lt_ff, eq_tt, eq_ff, M23, M254, M223, k2, k5, k7, m2, m5, m7, bb, sz]
