-- uses: 61
/-! all from a place on goes -/
theorem x_cut (at1 : Int) (h0 : 0 ≤ at1) : ∀ (c : Nat) (S : Sto), S 26 9 = at1 + c → at1 + c ≤ 1800 → XFs S → ∃ S', (∀ Q : ZQ, zCall Cd 190 2 [(26, 26), (0, at1)] S Q = Q S' (9, 0)) ∧ S' 26 9 = at1 ∧ XFs S' ∧ (∀ f, f ≠ 8 → f ≠ 9 → S' 26 f = S 26 f) ∧ ∀ b, b ≠ 26 → b ≠ 105 → S' b = S b := by
  have ent : ∀ (S : Sto) (Q : ZQ), zCall Cd 190 2 [(26, 26), (0, at1)] S Q = zG Cd 190 (Cd 190 0) [(26, 26), (0, at1)] [] S Q := fun S Q => rfl
  intro c
  induction c with
  | zero =>
    intro S h1 h2 xf
    refine ⟨S, fun Q => ?_, by omega, xf, fun _ _ _ => rfl, fun _ _ _ => rfl⟩
    rw [ent, L190_0]
    simp (disch := omega) only [bcd, true_and, and_true, and_self, if_true, if_false, ite_true, ite_false, reduceIte, Int.reduceEq, Int.reduceNe, Int.reduceLT, Int.reduceLE, Int.reduceAdd, Int.reduceSub, Int.reduceMul, Int.reduceNeg, Int.reduceMod, Int.reduceDiv, Int.reduceToNat, Nat.reduceAdd, Nat.reduceLeDiff, List.length_cons, List.length_nil, not_false_eq_true, not_true_eq_false, ne_eq, or_false, false_or, or_self, false_and, and_false, or_true, true_or, ite_self, Int.add_sub_cancel, Int.sub_add_cancel, b_lc1, b_lc2, b_lc3, b_lc4, b_lc5, up_eq, up_ei, up_n1, up_n2, W32i, W8i, W16i, W64i, if_ps, if_ng, and_tr, fil_n1, fil_in, fil_out, le_tt, le_ff, lt_tt, lt_ff, eq_tt, eq_ff, M190, h1]
  | succ c ih =>
    intro S h1 h2 xf
    have e : S 26 9 = at1 + c + 1 := by omega
    have x2 := xf
    unfold XFs at x2
    rw [e] at x2
    have nn := x2.nn
    have nb := x2.nb
    by_cases k : S 98 (at1 + c) = 2
    · have t := x2.tv (at1 + c) (by omega) (by omega) k
      have n1 : S 26 8 < 1800 := by
        have := x2.ct
        have z := zc2_le (S 98) (at1 + c).toNat
        rw [show (at1 + (c : Int) + 1).toNat = (at1 + c).toNat + 1 by omega, zc2, show (((at1 + (c : Int)).toNat : Nat) : Int) = at1 + c by omega, if_pos k] at this
        omega
      obtain ⟨S', r, a1, a2, a3, a4⟩ := ih (up (up (up S 26 9 (at1 + c)) 105 (S 26 8) (S 103 (at1 + c))) 26 8 (S 26 8 + 1)) (by simp (disch := omega) only [true_and, and_true, and_self, if_true, if_false, ite_true, ite_false, reduceIte, Int.reduceEq, Int.reduceNe, Int.reduceLT, Int.reduceLE, Int.reduceAdd, Int.reduceSub, Int.reduceMul, Int.reduceNeg, Int.reduceMod, Int.reduceDiv, Int.reduceToNat, Nat.reduceAdd, Nat.reduceLeDiff, List.length_cons, List.length_nil, not_false_eq_true, not_true_eq_false, ne_eq, or_false, false_or, or_self, false_and, and_false, or_true, true_or, ite_self, Int.add_sub_cancel, Int.sub_add_cancel, b_lc1, b_lc2, b_lc3, b_lc4, b_lc5, up_eq, up_ei, up_n1, up_n2, W32i, W8i, W16i, W64i, if_ps, if_ng, and_tr, fil_n1, fil_in, fil_out]) (by omega) (by
        have := x2.pop2 (by omega) k
        unfold XFs
        simp (disch := omega) only [true_and, and_true, and_self, if_true, if_false, ite_true, ite_false, reduceIte, Int.reduceEq, Int.reduceNe, Int.reduceLT, Int.reduceLE, Int.reduceAdd, Int.reduceSub, Int.reduceMul, Int.reduceNeg, Int.reduceMod, Int.reduceDiv, Int.reduceToNat, Nat.reduceAdd, Nat.reduceLeDiff, List.length_cons, List.length_nil, not_false_eq_true, not_true_eq_false, ne_eq, or_false, false_or, or_self, false_and, and_false, or_true, true_or, ite_self, Int.add_sub_cancel, Int.sub_add_cancel, b_lc1, b_lc2, b_lc3, b_lc4, b_lc5, up_eq, up_ei, up_n1, up_n2, W32i, W8i, W16i, W64i, if_ps, if_ng, and_tr, fil_n1, fil_in, fil_out, up_fn, up_fe]
        exact this)
      refine ⟨S', fun Q => ?_, a1, a2, fun f f1 f2 => ?_, fun b b1 b2 => ?_⟩
      · rw [← r Q, ent, ent]
        conv => lhs; rw [L190_0]
        simp (disch := omega) only [bcd, true_and, and_true, and_self, if_true, if_false, ite_true, ite_false, reduceIte, Int.reduceEq, Int.reduceNe, Int.reduceLT, Int.reduceLE, Int.reduceAdd, Int.reduceSub, Int.reduceMul, Int.reduceNeg, Int.reduceMod, Int.reduceDiv, Int.reduceToNat, Nat.reduceAdd, Nat.reduceLeDiff, List.length_cons, List.length_nil, not_false_eq_true, not_true_eq_false, ne_eq, or_false, false_or, or_self, false_and, and_false, or_true, true_or, ite_self, Int.add_sub_cancel, Int.sub_add_cancel, b_lc1, b_lc2, b_lc3, b_lc4, b_lc5, up_eq, up_ei, up_n1, up_n2, W32i, W8i, W16i, W64i, if_ps, if_ng, and_tr, fil_n1, fil_in, fil_out, le_tt, le_ff, lt_tt, lt_ff, eq_tt, eq_ff, M191, e, k]
      · rw [a3 f f1 f2]; simp (disch := omega) only [true_and, and_true, and_self, if_true, if_false, ite_true, ite_false, reduceIte, Int.reduceEq, Int.reduceNe, Int.reduceLT, Int.reduceLE, Int.reduceAdd, Int.reduceSub, Int.reduceMul, Int.reduceNeg, Int.reduceMod, Int.reduceDiv, Int.reduceToNat, Nat.reduceAdd, Nat.reduceLeDiff, List.length_cons, List.length_nil, not_false_eq_true, not_true_eq_false, ne_eq, or_false, false_or, or_self, false_and, and_false, or_true, true_or, ite_self, Int.add_sub_cancel, Int.sub_add_cancel, b_lc1, b_lc2, b_lc3, b_lc4, b_lc5, up_eq, up_ei, up_n1, up_n2, W32i, W8i, W16i, W64i, if_ps, if_ng, and_tr, fil_n1, fil_in, fil_out]
      · rw [a4 b b1 b2]; simp (disch := omega) only [true_and, and_true, and_self, if_true, if_false, ite_true, ite_false, reduceIte, Int.reduceEq, Int.reduceNe, Int.reduceLT, Int.reduceLE, Int.reduceAdd, Int.reduceSub, Int.reduceMul, Int.reduceNeg, Int.reduceMod, Int.reduceDiv, Int.reduceToNat, Nat.reduceAdd, Nat.reduceLeDiff, List.length_cons, List.length_nil, not_false_eq_true, not_true_eq_false, ne_eq, or_false, false_or, or_self, false_and, and_false, or_true, true_or, ite_self, Int.add_sub_cancel, Int.sub_add_cancel, b_lc1, b_lc2, b_lc3, b_lc4, b_lc5, up_eq, up_ei, up_n1, up_n2, W32i, W8i, W16i, W64i, if_ps, if_ng, and_tr, fil_n1, fil_in, fil_out, up_fn]
    · obtain ⟨S', r, a1, a2, a3, a4⟩ := ih (up S 26 9 (at1 + c)) (by simp (disch := omega) only [true_and, and_true, and_self, if_true, if_false, ite_true, ite_false, reduceIte, Int.reduceEq, Int.reduceNe, Int.reduceLT, Int.reduceLE, Int.reduceAdd, Int.reduceSub, Int.reduceMul, Int.reduceNeg, Int.reduceMod, Int.reduceDiv, Int.reduceToNat, Nat.reduceAdd, Nat.reduceLeDiff, List.length_cons, List.length_nil, not_false_eq_true, not_true_eq_false, ne_eq, or_false, false_or, or_self, false_and, and_false, or_true, true_or, ite_self, Int.add_sub_cancel, Int.sub_add_cancel, b_lc1, b_lc2, b_lc3, b_lc4, b_lc5, up_eq, up_ei, up_n1, up_n2, W32i, W8i, W16i, W64i, if_ps, if_ng, and_tr, fil_n1, fil_in, fil_out]) (by omega) (by
        have := x2.pop (by omega) k
        unfold XFs
        simp (disch := omega) only [true_and, and_true, and_self, if_true, if_false, ite_true, ite_false, reduceIte, Int.reduceEq, Int.reduceNe, Int.reduceLT, Int.reduceLE, Int.reduceAdd, Int.reduceSub, Int.reduceMul, Int.reduceNeg, Int.reduceMod, Int.reduceDiv, Int.reduceToNat, Nat.reduceAdd, Nat.reduceLeDiff, List.length_cons, List.length_nil, not_false_eq_true, not_true_eq_false, ne_eq, or_false, false_or, or_self, false_and, and_false, or_true, true_or, ite_self, Int.add_sub_cancel, Int.sub_add_cancel, b_lc1, b_lc2, b_lc3, b_lc4, b_lc5, up_eq, up_ei, up_n1, up_n2, W32i, W8i, W16i, W64i, if_ps, if_ng, and_tr, fil_n1, fil_in, fil_out, up_fn, up_fe]
        exact this)
      refine ⟨S', fun Q => ?_, a1, a2, fun f f1 f2 => ?_, fun b b1 b2 => ?_⟩
      · rw [← r Q, ent, ent]
        conv => lhs; rw [L190_0]
        simp (disch := omega) only [bcd, true_and, and_true, and_self, if_true, if_false, ite_true, ite_false, reduceIte, Int.reduceEq, Int.reduceNe, Int.reduceLT, Int.reduceLE, Int.reduceAdd, Int.reduceSub, Int.reduceMul, Int.reduceNeg, Int.reduceMod, Int.reduceDiv, Int.reduceToNat, Nat.reduceAdd, Nat.reduceLeDiff, List.length_cons, List.length_nil, not_false_eq_true, not_true_eq_false, ne_eq, or_false, false_or, or_self, false_and, and_false, or_true, true_or, ite_self, Int.add_sub_cancel, Int.sub_add_cancel, b_lc1, b_lc2, b_lc3, b_lc4, b_lc5, up_eq, up_ei, up_n1, up_n2, W32i, W8i, W16i, W64i, if_ps, if_ng, and_tr, fil_n1, fil_in, fil_out, le_tt, le_ff, lt_tt, lt_ff, eq_tt, eq_ff, e, k]
      · rw [a3 f f1 f2]; simp (disch := omega) only [true_and, and_true, and_self, if_true, if_false, ite_true, ite_false, reduceIte, Int.reduceEq, Int.reduceNe, Int.reduceLT, Int.reduceLE, Int.reduceAdd, Int.reduceSub, Int.reduceMul, Int.reduceNeg, Int.reduceMod, Int.reduceDiv, Int.reduceToNat, Nat.reduceAdd, Nat.reduceLeDiff, List.length_cons, List.length_nil, not_false_eq_true, not_true_eq_false, ne_eq, or_false, false_or, or_self, false_and, and_false, or_true, true_or, ite_self, Int.add_sub_cancel, Int.sub_add_cancel, b_lc1, b_lc2, b_lc3, b_lc4, b_lc5, up_eq, up_ei, up_n1, up_n2, W32i, W8i, W16i, W64i, if_ps, if_ng, and_tr, fil_n1, fil_in, fil_out]
      · rw [a4 b b1 b2]; simp (disch := omega) only [true_and, and_true, and_self, if_true, if_false, ite_true, ite_false, reduceIte, Int.reduceEq, Int.reduceNe, Int.reduceLT, Int.reduceLE, Int.reduceAdd, Int.reduceSub, Int.reduceMul, Int.reduceNeg, Int.reduceMod, Int.reduceDiv, Int.reduceToNat, Nat.reduceAdd, Nat.reduceLeDiff, List.length_cons, List.length_nil, not_false_eq_true, not_true_eq_false, ne_eq, or_false, false_or, or_self, false_and, and_false, or_true, true_or, ite_self, Int.add_sub_cancel, Int.sub_add_cancel, b_lc1, b_lc2, b_lc3, b_lc4, b_lc5, up_eq, up_ei, up_n1, up_n2, W32i, W8i, W16i, W64i, if_ps, if_ng, and_tr, fil_n1, fil_in, fil_out, up_fn]
/-! reading from a place on -/
theorem x_rread {S : Sto} {N p bg : Int} (h0 : 0 ≤ p) (hN : p ≤ N) (hs : S 27 1 = N) (h4 : N ≤ 4096) (hi : S 27 0 = 134217834) (hby : ∀ i, 0 ≤ i → i < N → -128 ≤ S 134217834 i ∧ S 134217834 i ≤ 127) (hz : S 26 9 = bg) (b0 : 0 ≤ bg) (b1 : bg ≤ 1600) (xf : XFs S) :
    match rdF (xB S) N 201 1 1 p 0 with
    | .error (e, pl) => ∃ S', zR 206 4 [(28, 28), (0, p)] S S' (0, e) ∧ xer S S' bg e pl
    | .ok (r, p', k') => ∃ S', zR 206 4 [(28, 28), (0, p)] S S' (0, 0) ∧ S' 28 4 = -1 ∧ S' 28 2 = p' ∧ XFs S' ∧ S' 26 9 = bg + fsize r ∧ xlow S S' bg ∧ xoth S S' ∧ xseg S' bg r := by
  have hB := xB_by S N
  obtain ⟨S0, hS0⟩ : ∃ S0, S0 = up (up (up (up S 28 2 p) 28 3 0) 28 4 (-1)) 28 7 0 := ⟨_, rfl⟩
  have ot0 : xoth S S0 := by
    rw [hS0]
    exact ⟨fun f _ _ _ _ _ _ _ => by simp (disch := omega) only [true_and, and_true, and_self, if_true, if_false, ite_true, ite_false, reduceIte, Int.reduceEq, Int.reduceNe, Int.reduceLT, Int.reduceLE, Int.reduceAdd, Int.reduceSub, Int.reduceMul, Int.reduceNeg, Int.reduceMod, Int.reduceDiv, Int.reduceToNat, Nat.reduceAdd, Nat.reduceLeDiff, List.length_cons, List.length_nil, not_false_eq_true, not_true_eq_false, ne_eq, or_false, false_or, or_self, false_and, and_false, or_true, true_or, ite_self, Int.add_sub_cancel, Int.sub_add_cancel, b_lc1, b_lc2, b_lc3, b_lc4, b_lc5, up_eq, up_ei, up_n1, up_n2, W32i, W8i, W16i, W64i, if_ps, if_ng, and_tr, fil_n1, fil_in, fil_out], fun f _ _ => by simp (disch := omega) only [true_and, and_true, and_self, if_true, if_false, ite_true, ite_false, reduceIte, Int.reduceEq, Int.reduceNe, Int.reduceLT, Int.reduceLE, Int.reduceAdd, Int.reduceSub, Int.reduceMul, Int.reduceNeg, Int.reduceMod, Int.reduceDiv, Int.reduceToNat, Nat.reduceAdd, Nat.reduceLeDiff, List.length_cons, List.length_nil, not_false_eq_true, not_true_eq_false, ne_eq, or_false, false_or, or_self, false_and, and_false, or_true, true_or, ite_self, Int.add_sub_cancel, Int.sub_add_cancel, b_lc1, b_lc2, b_lc3, b_lc4, b_lc5, up_eq, up_ei, up_n1, up_n2, W32i, W8i, W16i, W64i, if_ps, if_ng, and_tr, fil_n1, fil_in, fil_out], fun b _ _ zz => by simp (disch := omega) only [true_and, and_true, and_self, if_true, if_false, ite_true, ite_false, reduceIte, Int.reduceEq, Int.reduceNe, Int.reduceLT, Int.reduceLE, Int.reduceAdd, Int.reduceSub, Int.reduceMul, Int.reduceNeg, Int.reduceMod, Int.reduceDiv, Int.reduceToNat, Nat.reduceAdd, Nat.reduceLeDiff, List.length_cons, List.length_nil, not_false_eq_true, not_true_eq_false, ne_eq, or_false, false_or, or_self, false_and, and_false, or_true, true_or, ite_self, Int.add_sub_cancel, Int.sub_add_cancel, b_lc1, b_lc2, b_lc3, b_lc4, b_lc5, up_eq, up_ei, up_n1, up_n2, W32i, W8i, W16i, W64i, if_ps, if_ng, and_tr, fil_n1, fil_in, fil_out, up_fn]⟩
  have lo0 : xlow S S0 bg := by
    rw [hS0]
    intro i _ _
    simp (disch := omega) only [true_and, and_true, and_self, if_true, if_false, ite_true, ite_false, reduceIte, Int.reduceEq, Int.reduceNe, Int.reduceLT, Int.reduceLE, Int.reduceAdd, Int.reduceSub, Int.reduceMul, Int.reduceNeg, Int.reduceMod, Int.reduceDiv, Int.reduceToNat, Nat.reduceAdd, Nat.reduceLeDiff, List.length_cons, List.length_nil, not_false_eq_true, not_true_eq_false, ne_eq, or_false, false_or, or_self, false_and, and_false, or_true, true_or, ite_self, Int.add_sub_cancel, Int.sub_add_cancel, b_lc1, b_lc2, b_lc3, b_lc4, b_lc5, up_eq, up_ei, up_n1, up_n2, W32i, W8i, W16i, W64i, if_ps, if_ng, and_tr, fil_n1, fil_in, fil_out]
    intros; trivial
  have xf0 : XFs S0 := by
    rw [hS0]
    unfold XFs at xf ⊢
    simp (disch := omega) only [true_and, and_true, and_self, if_true, if_false, ite_true, ite_false, reduceIte, Int.reduceEq, Int.reduceNe, Int.reduceLT, Int.reduceLE, Int.reduceAdd, Int.reduceSub, Int.reduceMul, Int.reduceNeg, Int.reduceMod, Int.reduceDiv, Int.reduceToNat, Nat.reduceAdd, Nat.reduceLeDiff, List.length_cons, List.length_nil, not_false_eq_true, not_true_eq_false, ne_eq, or_false, false_or, or_self, false_and, and_false, or_true, true_or, ite_self, Int.add_sub_cancel, Int.sub_add_cancel, b_lc1, b_lc2, b_lc3, b_lc4, b_lc5, up_eq, up_ei, up_n1, up_n2, W32i, W8i, W16i, W64i, if_ps, if_ng, and_tr, fil_n1, fil_in, fil_out, up_fn]
    exact xf
  obtain ⟨ob1, ob2, ob3⟩ := ot0.b
  have in0 : xin S0 N p bg bg 0 := by
    apply xin.mk1
    case hp => rw [hS0]; simp (disch := omega) only [true_and, and_true, and_self, if_true, if_false, ite_true, ite_false, reduceIte, Int.reduceEq, Int.reduceNe, Int.reduceLT, Int.reduceLE, Int.reduceAdd, Int.reduceSub, Int.reduceMul, Int.reduceNeg, Int.reduceMod, Int.reduceDiv, Int.reduceToNat, Nat.reduceAdd, Nat.reduceLeDiff, List.length_cons, List.length_nil, not_false_eq_true, not_true_eq_false, ne_eq, or_false, false_or, or_self, false_and, and_false, or_true, true_or, ite_self, Int.add_sub_cancel, Int.sub_add_cancel, b_lc1, b_lc2, b_lc3, b_lc4, b_lc5, up_eq, up_ei, up_n1, up_n2, W32i, W8i, W16i, W64i, if_ps, if_ng, and_tr, fil_n1, fil_in, fil_out]
    case h0 => exact h0
    case hN => exact hN
    case hs => rw [ob2]; exact hs
    case h4 => exact h4
    case hi => rw [ob2]; exact hi
    case hby => rw [ob3]; exact hby
    case hz => rw [hS0]; simp (disch := omega) only [true_and, and_true, and_self, if_true, if_false, ite_true, ite_false, reduceIte, Int.reduceEq, Int.reduceNe, Int.reduceLT, Int.reduceLE, Int.reduceAdd, Int.reduceSub, Int.reduceMul, Int.reduceNeg, Int.reduceMod, Int.reduceDiv, Int.reduceToNat, Nat.reduceAdd, Nat.reduceLeDiff, List.length_cons, List.length_nil, not_false_eq_true, not_true_eq_false, ne_eq, or_false, false_or, or_self, false_and, and_false, or_true, true_or, ite_self, Int.add_sub_cancel, Int.sub_add_cancel, b_lc1, b_lc2, b_lc3, b_lc4, b_lc5, up_eq, up_ei, up_n1, up_n2, W32i, W8i, W16i, W64i, if_ps, if_ng, and_tr, fil_n1, fil_in, fil_out, hz]
    case b0 => exact b0
    case b1 => exact b1
    case bz => omega
    case hd => rw [hS0]; simp (disch := omega) only [true_and, and_true, and_self, if_true, if_false, ite_true, ite_false, reduceIte, Int.reduceEq, Int.reduceNe, Int.reduceLT, Int.reduceLE, Int.reduceAdd, Int.reduceSub, Int.reduceMul, Int.reduceNeg, Int.reduceMod, Int.reduceDiv, Int.reduceToNat, Nat.reduceAdd, Nat.reduceLeDiff, List.length_cons, List.length_nil, not_false_eq_true, not_true_eq_false, ne_eq, or_false, false_or, or_self, false_and, and_false, or_true, true_or, ite_self, Int.add_sub_cancel, Int.sub_add_cancel, b_lc1, b_lc2, b_lc3, b_lc4, b_lc5, up_eq, up_ei, up_n1, up_n2, W32i, W8i, W16i, W64i, if_ps, if_ng, and_tr, fil_n1, fil_in, fil_out]
    case d0 => omega
    case d1 => omega
    case xf => exact xf0
    case ft => rw [hS0]; simp (disch := omega) only [true_and, and_true, and_self, if_true, if_false, ite_true, ite_false, reduceIte, Int.reduceEq, Int.reduceNe, Int.reduceLT, Int.reduceLE, Int.reduceAdd, Int.reduceSub, Int.reduceMul, Int.reduceNeg, Int.reduceMod, Int.reduceDiv, Int.reduceToNat, Nat.reduceAdd, Nat.reduceLeDiff, List.length_cons, List.length_nil, not_false_eq_true, not_true_eq_false, ne_eq, or_false, false_or, or_self, false_and, and_false, or_true, true_or, ite_self, Int.add_sub_cancel, Int.sub_add_cancel, b_lc1, b_lc2, b_lc3, b_lc4, b_lc5, up_eq, up_ei, up_n1, up_n2, W32i, W8i, W16i, W64i, if_ps, if_ng, and_tr, fil_n1, fil_in, fil_out]
  have nd := x_node (bg := bg) in0.hp in0.h0 in0.hN in0.hs in0.h4 in0.hi in0.hby in0.hz (by omega) (by omega) b0 (by omega) (by omega) in0.hd (by omega) (by omega) xf0
  rw [ob1] at nd
  have call1 : ∀ S1, zR 207 4 [(28, 28), (0, bg)] S0 S1 (0, 1) → ∀ Q : ZQ, zCall Cd 206 4 [(28, 28), (0, p)] S Q = xlp S1 p bg Q := by
    intro S1 r Q
    unfold zR at r
    rw [hS0] at r
    unfold xlp
    simp (disch := omega) only [bcd, true_and, and_true, and_self, if_true, if_false, ite_true, ite_false, reduceIte, Int.reduceEq, Int.reduceNe, Int.reduceLT, Int.reduceLE, Int.reduceAdd, Int.reduceSub, Int.reduceMul, Int.reduceNeg, Int.reduceMod, Int.reduceDiv, Int.reduceToNat, Nat.reduceAdd, Nat.reduceLeDiff, List.length_cons, List.length_nil, not_false_eq_true, not_true_eq_false, ne_eq, or_false, false_or, or_self, false_and, and_false, or_true, true_or, ite_self, Int.add_sub_cancel, Int.sub_add_cancel, b_lc1, b_lc2, b_lc3, b_lc4, b_lc5, up_eq, up_ei, up_n1, up_n2, W32i, W8i, W16i, W64i, if_ps, if_ng, and_tr, fil_n1, fil_in, fil_out, le_tt, le_ff, lt_tt, lt_ff, eq_tt, eq_ff, M206, hz, r]
  have fin : ∀ (S1 : Sto) (Q : ZQ), xend S1 p bg Q = Q S1 (0, S1 28 3) := by
    intro S1 Q
    unfold xend
    simp (disch := omega) only [bcd, true_and, and_true, and_self, if_true, if_false, ite_true, ite_false, reduceIte, Int.reduceEq, Int.reduceNe, Int.reduceLT, Int.reduceLE, Int.reduceAdd, Int.reduceSub, Int.reduceMul, Int.reduceNeg, Int.reduceMod, Int.reduceDiv, Int.reduceToNat, Nat.reduceAdd, Nat.reduceLeDiff, List.length_cons, List.length_nil, not_false_eq_true, not_true_eq_false, ne_eq, or_false, false_or, or_self, false_and, and_false, or_true, true_or, ite_self, Int.add_sub_cancel, Int.sub_add_cancel, b_lc1, b_lc2, b_lc3, b_lc4, b_lc5, up_eq, up_ei, up_n1, up_n2, W32i, W8i, W16i, W64i, if_ps, if_ng, and_tr, fil_n1, fil_in, fil_out, le_tt, le_ff, lt_tt, lt_ff, eq_tt, eq_ff, M206]
  have call0 : ∀ S1, zR 207 4 [(28, 28), (0, bg)] S0 S1 (0, 0) → ∀ Q : ZQ, zCall Cd 206 4 [(28, 28), (0, p)] S Q = Q S1 (0, S1 28 3) := by
    intro S1 r Q
    unfold zR at r
    rw [hS0] at r
    have e34 : zG Cd 206 (Cd 206 34) [(28, 28), (0, p), (0, bg), (0, 0)] [] S1 Q = Q S1 (0, S1 28 3) := by
      rw [L206_34]
      simp (disch := omega) only [bcd, true_and, and_true, and_self, if_true, if_false, ite_true, ite_false, reduceIte, Int.reduceEq, Int.reduceNe, Int.reduceLT, Int.reduceLE, Int.reduceAdd, Int.reduceSub, Int.reduceMul, Int.reduceNeg, Int.reduceMod, Int.reduceDiv, Int.reduceToNat, Nat.reduceAdd, Nat.reduceLeDiff, List.length_cons, List.length_nil, not_false_eq_true, not_true_eq_false, ne_eq, or_false, false_or, or_self, false_and, and_false, or_true, true_or, ite_self, Int.add_sub_cancel, Int.sub_add_cancel, b_lc1, b_lc2, b_lc3, b_lc4, b_lc5, up_eq, up_ei, up_n1, up_n2, W32i, W8i, W16i, W64i, if_ps, if_ng, and_tr, fil_n1, fil_in, fil_out, le_tt, le_ff, lt_tt, lt_ff, eq_tt, eq_ff, M206]
    simp (disch := omega) only [bcd, true_and, and_true, and_self, if_true, if_false, ite_true, ite_false, reduceIte, Int.reduceEq, Int.reduceNe, Int.reduceLT, Int.reduceLE, Int.reduceAdd, Int.reduceSub, Int.reduceMul, Int.reduceNeg, Int.reduceMod, Int.reduceDiv, Int.reduceToNat, Nat.reduceAdd, Nat.reduceLeDiff, List.length_cons, List.length_nil, not_false_eq_true, not_true_eq_false, ne_eq, or_false, false_or, or_self, false_and, and_false, or_true, true_or, ite_self, Int.add_sub_cancel, Int.sub_add_cancel, b_lc1, b_lc2, b_lc3, b_lc4, b_lc5, up_eq, up_ei, up_n1, up_n2, W32i, W8i, W16i, W64i, if_ps, if_ng, and_tr, fil_n1, fil_in, fil_out, le_tt, le_ff, lt_tt, lt_ff, eq_tt, eq_ff, M206, hz, r, e34]
  have flt : ∀ e pl, (∃ S', xE S0 bg e pl S') → ∃ S', zR 206 4 [(28, 28), (0, p)] S S' (0, e) ∧ xer S S' bg e pl := by
    rintro e pl ⟨S', x⟩
    refine ⟨S', fun Q => by rw [call0 S' x.run, x.ft], ?_⟩
    have hz0 := in0.hz
    have sz := x.sz
    apply xer.mk1
    case ft => exact x.ft
    case plc => exact x.plc
    case e0 => exact x.e0
    case xf => exact x.xf
    case sz => omega
    case lo =>
      have := x.lo
      rw [hz0] at this
      exact lo0.tr this (by omega)
    case ot => exact ot0.tr x.ot
  rw [rdF, if_neg (by decide)]
  cases hh : rdH (xB S) N p (-1) with
  | error ep =>
    obtain ⟨e, pl⟩ := ep
    rw [hh] at nd
    exact flt e pl nd
  | ok kvp =>
    obtain ⟨kd, v, p1⟩ := kvp
    rw [hh] at nd
    simp only at nd ⊢
    by_cases zn : znum kd v
    · rw [if_neg (fun q => q zn)] at nd ⊢
      rw [if_neg (by decide)] at nd ⊢
      rw [if_neg (by omega)] at nd
      rw [if_neg (by decide)]
      cases hb : rdB (xB S) N kd v p1 with
      | error ep =>
        obtain ⟨e, pl⟩ := ep
        rw [hb] at nd
        exact flt e pl nd
      | ok tnp =>
        obtain ⟨tx, n, p2⟩ := tnp
        rw [hb] at nd
        simp only at nd ⊢
        obtain ⟨S1, val, nX, n1, st, xv⟩ := nd
        have T := x_step (S0 := S0) (x_loop (N := N) (fm := p) (bg := bg) 200) in0 (show (1 : Int) = 0 + 1 by rfl) (by omega) (by omega) (by omega) (by rw [ob1]; exact hh) zn (by rw [ob1]; exact hb) rfl n1 st xv
        rw [ob1, show bg - bg + 1 = (0 : Int) + 1 by omega] at T
        cases hk : rdF (xB S) N 200 (1 + 1) n p2 (0 + 1) with
        | error ep =>
          obtain ⟨e, pl⟩ := ep
          rw [hk] at T
          obtain ⟨S', r', x⟩ := T
          refine ⟨S', fun Q => by rw [call1 S1 n1.run, r', fin, x.ft], ?_⟩
          apply xer.mk1
          case ft => exact x.ft
          case plc => exact x.plc
          case e0 => exact x.e0
          case xf => exact x.xf
          case sz => exact x.sz
          case lo => exact lo0.tr x.lo (by omega)
          case ot => exact ot0.tr x.ot
        | ok kpk =>
          obtain ⟨ks, p3, k3⟩ := kpk
          rw [hk] at T
          obtain ⟨S2, r2, ok⟩ := T
          simp only
          rw [show rdF (xB S) N 200 1 (1 - 1) p3 k3 = .ok (.leaf, p3, k3) by rw [rdF, if_pos (by decide)]]
          have e2 : ∀ Q : ZQ, xlp S2 p bg Q = Q S2 (0, 0) := by
            intro Q
            have dp := ok.dp
            have ft : S2 28 3 = 0 := by rw [ok.ft]; exact in0.ft
            unfold xlp
            rw [L206_34]
            simp (disch := omega) only [bcd, true_and, and_true, and_self, if_true, if_false, ite_true, ite_false, reduceIte, Int.reduceEq, Int.reduceNe, Int.reduceLT, Int.reduceLE, Int.reduceAdd, Int.reduceSub, Int.reduceMul, Int.reduceNeg, Int.reduceMod, Int.reduceDiv, Int.reduceToNat, Nat.reduceAdd, Nat.reduceLeDiff, List.length_cons, List.length_nil, not_false_eq_true, not_true_eq_false, ne_eq, or_false, false_or, or_self, false_and, and_false, or_true, true_or, ite_self, Int.add_sub_cancel, Int.sub_add_cancel, b_lc1, b_lc2, b_lc3, b_lc4, b_lc5, up_eq, up_ei, up_n1, up_n2, W32i, W8i, W16i, W64i, if_ps, if_ng, and_tr, fil_n1, fil_in, fil_out, le_tt, le_ff, lt_tt, lt_ff, eq_tt, eq_ff, M206, dp, ft]
          refine ⟨S2, fun Q => by rw [call1 S1 n1.run, r2, e2], ?_, ok.at1, ok.xf, ok.sz, lo0.tr ok.lo (by omega), ot0.tr ok.ot, ok.sg⟩
          rw [ok.plc, hS0]; simp (disch := omega) only [true_and, and_true, and_self, if_true, if_false, ite_true, ite_false, reduceIte, Int.reduceEq, Int.reduceNe, Int.reduceLT, Int.reduceLE, Int.reduceAdd, Int.reduceSub, Int.reduceMul, Int.reduceNeg, Int.reduceMod, Int.reduceDiv, Int.reduceToNat, Nat.reduceAdd, Nat.reduceLeDiff, List.length_cons, List.length_nil, not_false_eq_true, not_true_eq_false, ne_eq, or_false, false_or, or_self, false_and, and_false, or_true, true_or, ite_self, Int.add_sub_cancel, Int.sub_add_cancel, b_lc1, b_lc2, b_lc3, b_lc4, b_lc5, up_eq, up_ei, up_n1, up_n2, W32i, W8i, W16i, W64i, if_ps, if_ng, and_tr, fil_n1, fil_in, fil_out]
    · rw [if_pos zn] at nd ⊢
      exact flt _ _ nd
