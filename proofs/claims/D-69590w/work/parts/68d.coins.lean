-- uses: 68c
def lpo (f : F) (l : Int) (i : Nat) : Int := if i = 0 then -1 else nt f (wi f l (i - 1) + 1)
def lna (f : F) (l : Int) (i : Nat) : Int := if i = 0 then 0 else nt f (wi f l (i - 1) + 2)
def pCos (f : F) (l m sc : Int) (i : Nat) : Bool := decide (pA f (wi f l i) m sc ∧ pB m (nt f (wi f l i + 1)) (nt f (wi f l i + 2)) (nt f (wi f l i + 3)) (lpo f l i) (lna f l i))
/-- nothing but the coin that was read has changed -/
def xsc (S S' : Sto) : Prop := (∀ f, f ≠ 4 → f ≠ 5 → f ≠ 6 → S' 33 f = S 33 f) ∧ ∀ b, b ≠ 33 → S' b = S b
theorem xsc.rf (S : Sto) : xsc S S := ⟨fun _ _ _ _ => rfl, fun _ _ => rfl⟩
theorem xsc.tr {S S' S'' : Sto} (h : xsc S S') (g : xsc S' S'') : xsc S S'' := ⟨fun f a b c => (g.1 f a b c).trans (h.1 f a b c), fun b x => (g.2 b x).trans (h.2 b x)⟩
theorem xsc.co (S : Sto) (f : F) (c : Int) : xsc S (xco S f c) := by
  unfold xco
  exact ⟨fun f a b c => by simp (disch := omega) only [true_and, and_true, and_self, if_true, if_false, ite_true, ite_false, reduceIte, Int.reduceEq, Int.reduceNe, Int.reduceLT, Int.reduceLE, Int.reduceAdd, Int.reduceSub, Int.reduceMul, Int.reduceNeg, Int.reduceMod, Int.reduceDiv, Int.reduceToNat, Nat.reduceAdd, Nat.reduceLeDiff, List.length_cons, List.length_nil, not_false_eq_true, not_true_eq_false, ne_eq, or_false, false_or, or_self, false_and, and_false, or_true, true_or, ite_self, Int.add_sub_cancel, Int.sub_add_cancel, b_lc1, b_lc2, b_lc3, b_lc4, b_lc5, up_eq, up_ei, up_n1, up_n2, W32i, W8i, W16i, W64i, if_ps, if_ng, and_tr, fil_n1, fil_in, fil_out], fun b x => by simp (disch := omega) only [true_and, and_true, and_self, if_true, if_false, ite_true, ite_false, reduceIte, Int.reduceEq, Int.reduceNe, Int.reduceLT, Int.reduceLE, Int.reduceAdd, Int.reduceSub, Int.reduceMul, Int.reduceNeg, Int.reduceMod, Int.reduceDiv, Int.reduceToNat, Nat.reduceAdd, Nat.reduceLeDiff, List.length_cons, List.length_nil, not_false_eq_true, not_true_eq_false, ne_eq, or_false, false_or, or_self, false_and, and_false, or_true, true_or, ite_self, Int.add_sub_cancel, Int.sub_add_cancel, b_lc1, b_lc2, b_lc3, b_lc4, b_lc5, up_eq, up_ei, up_n1, up_n2, W32i, W8i, W16i, W64i, if_ps, if_ng, and_tr, fil_n1, fil_in, fil_out, up_fn]⟩
theorem XD.sc {S S' : Sto} {f : F} (h : XD S f) (e : xsc S S') : XD S' f := by
  obtain ⟨h_v, h_sz, h_kd, h_va, h_nu, h_ss⟩ := h
  apply XD.mk1
  case v => assumption
  case sz => assumption
  case kd => rw [e.2 _ (by decide)]; assumption
  case va => rw [e.2 _ (by decide)]; assumption
  case nu => rw [e.2 _ (by decide)]; assumption
  case ss => rw [e.2 _ (by decide)]; assumption
theorem x_areCoins {S : Sto} {f : F} (h : XD S f) {l m sc : Int} (l0 : 0 ≤ l) (l1 : l < fsize f) (h2 : nf f l = 2) (hs : S 33 2 = sc) (hm : m = 0 ∨ m = 1) : ∃ S', zR 249 10 [(33, 33), (0, l), (0, m)] S S' (0, zb1 (zall (pCos f l m sc) (nc f l).toNat 0)) ∧ xsc S S' := by
  have sz := h.sz
  have cb := nc_b h.v sz l0 l1 h2
  have ex0 : ∀ (T : Sto) (_ : XD T f) (k a b : Int) (n : AV) (Q : ZQ), zG Cd 249 (Cd 249 13) [(33, 33), (0, l), (0, m), (0, 0), (1, a), (9, 0), (1, b), (9, 0), (0, k), n] [] T Q = Q T (0, 0) := by
    intro T hT k a b n Q
    have mn := fun Q => x_many hT l l0 l1 (by omega) Q
    rw [L249_13]
    by_cases q : nc f l ≤ k <;> simp (disch := omega) only [bcd, true_and, and_true, and_self, if_true, if_false, ite_true, ite_false, reduceIte, Int.reduceEq, Int.reduceNe, Int.reduceLT, Int.reduceLE, Int.reduceAdd, Int.reduceSub, Int.reduceMul, Int.reduceNeg, Int.reduceMod, Int.reduceDiv, Int.reduceToNat, Nat.reduceAdd, Nat.reduceLeDiff, List.length_cons, List.length_nil, not_false_eq_true, not_true_eq_false, ne_eq, or_false, false_or, or_self, false_and, and_false, or_true, true_or, ite_self, Int.add_sub_cancel, Int.sub_add_cancel, b_lc1, b_lc2, b_lc3, b_lc4, b_lc5, up_eq, up_ei, up_n1, up_n2, W32i, W8i, W16i, W64i, if_ps, if_ng, and_tr, fil_n1, fil_in, fil_out, le_tt, le_ff, lt_tt, lt_ff, eq_tt, eq_ff, M249, mn]
  have lp : ∀ (c i : Nat) (T : Sto) (n : AV), XD T f → T 33 2 = sc → (i : Int) + c = nc f l → ∃ S', (∀ Q : ZQ, zG Cd 249 (Cd 249 13) [(33, 33), (0, l), (0, m), (0, 1), (1, lpo f l i), (9, 0), (1, lna f l i), (9, 0), (0, (i : Int)), n] [] T Q = Q S' (0, zb1 (zall (pCos f l m sc) c i))) ∧ xsc T S' := by
    intro c
    induction c with
    | zero =>
      intro i T n hT hc hi
      refine ⟨T, fun Q => ?_, xsc.rf T⟩
      have mn := fun Q => x_many hT l l0 l1 (by omega) Q
      rw [L249_13, zall, zb1_t]
      simp (disch := omega) only [bcd, true_and, and_true, and_self, if_true, if_false, ite_true, ite_false, reduceIte, Int.reduceEq, Int.reduceNe, Int.reduceLT, Int.reduceLE, Int.reduceAdd, Int.reduceSub, Int.reduceMul, Int.reduceNeg, Int.reduceMod, Int.reduceDiv, Int.reduceToNat, Nat.reduceAdd, Nat.reduceLeDiff, List.length_cons, List.length_nil, not_false_eq_true, not_true_eq_false, ne_eq, or_false, false_or, or_self, false_and, and_false, or_true, true_or, ite_self, Int.add_sub_cancel, Int.sub_add_cancel, b_lc1, b_lc2, b_lc3, b_lc4, b_lc5, up_eq, up_ei, up_n1, up_n2, W32i, W8i, W16i, W64i, if_ps, if_ng, and_tr, fil_n1, fil_in, fil_out, le_tt, le_ff, lt_tt, lt_ff, eq_tt, eq_ff, M249, mn]
    | succ c ih =>
      intro i T n hT hc hi
      have A := fun Q => x_coA hT (lp := lpo f l i) (ln := lna f l i) (n := n) i l0 l1 h2 (by omega) hc hm Q
      by_cases a : pA f (wi f l i) m sc
      · have e1 : xco T f (wi f l i) 33 4 = nt f (wi f l i + 1) := by unfold xco; simp (disch := omega) only [true_and, and_true, and_self, if_true, if_false, ite_true, ite_false, reduceIte, Int.reduceEq, Int.reduceNe, Int.reduceLT, Int.reduceLE, Int.reduceAdd, Int.reduceSub, Int.reduceMul, Int.reduceNeg, Int.reduceMod, Int.reduceDiv, Int.reduceToNat, Nat.reduceAdd, Nat.reduceLeDiff, List.length_cons, List.length_nil, not_false_eq_true, not_true_eq_false, ne_eq, or_false, false_or, or_self, false_and, and_false, or_true, true_or, ite_self, Int.add_sub_cancel, Int.sub_add_cancel, b_lc1, b_lc2, b_lc3, b_lc4, b_lc5, up_eq, up_ei, up_n1, up_n2, W32i, W8i, W16i, W64i, if_ps, if_ng, and_tr, fil_n1, fil_in, fil_out]
        have e2 : xco T f (wi f l i) 33 5 = nt f (wi f l i + 2) := by unfold xco; simp (disch := omega) only [true_and, and_true, and_self, if_true, if_false, ite_true, ite_false, reduceIte, Int.reduceEq, Int.reduceNe, Int.reduceLT, Int.reduceLE, Int.reduceAdd, Int.reduceSub, Int.reduceMul, Int.reduceNeg, Int.reduceMod, Int.reduceDiv, Int.reduceToNat, Nat.reduceAdd, Nat.reduceLeDiff, List.length_cons, List.length_nil, not_false_eq_true, not_true_eq_false, ne_eq, or_false, false_or, or_self, false_and, and_false, or_true, true_or, ite_self, Int.add_sub_cancel, Int.sub_add_cancel, b_lc1, b_lc2, b_lc3, b_lc4, b_lc5, up_eq, up_ei, up_n1, up_n2, W32i, W8i, W16i, W64i, if_ps, if_ng, and_tr, fil_n1, fil_in, fil_out]
        have e3 : xco T f (wi f l i) 33 6 = nt f (wi f l i + 3) := by unfold xco; simp (disch := omega) only [true_and, and_true, and_self, if_true, if_false, ite_true, ite_false, reduceIte, Int.reduceEq, Int.reduceNe, Int.reduceLT, Int.reduceLE, Int.reduceAdd, Int.reduceSub, Int.reduceMul, Int.reduceNeg, Int.reduceMod, Int.reduceDiv, Int.reduceToNat, Nat.reduceAdd, Nat.reduceLeDiff, List.length_cons, List.length_nil, not_false_eq_true, not_true_eq_false, ne_eq, or_false, false_or, or_self, false_and, and_false, or_true, true_or, ite_self, Int.add_sub_cancel, Int.sub_add_cancel, b_lc1, b_lc2, b_lc3, b_lc4, b_lc5, up_eq, up_ei, up_n1, up_n2, W32i, W8i, W16i, W64i, if_ps, if_ng, and_tr, fil_n1, fil_in, fil_out]
        have B := fun Q => x_coB (l := l) (g0 := 1) (k := (i : Int)) (n := wi f l i) (lp := lpo f l i) (ln := lna f l i) e1 e2 e3 hm (by omega) (by omega) Q
        have hX := hT.sc (xsc.co T f (wi f l i))
        by_cases b : pB m (nt f (wi f l i + 1)) (nt f (wi f l i + 2)) (nt f (wi f l i + 3)) (lpo f l i) (lna f l i)
        · have p : pCos f l m sc i = true := decide_eq_true ⟨a, b⟩
          have hcX : xco T f (wi f l i) 33 2 = sc := by unfold xco; simp (disch := omega) only [true_and, and_true, and_self, if_true, if_false, ite_true, ite_false, reduceIte, Int.reduceEq, Int.reduceNe, Int.reduceLT, Int.reduceLE, Int.reduceAdd, Int.reduceSub, Int.reduceMul, Int.reduceNeg, Int.reduceMod, Int.reduceDiv, Int.reduceToNat, Nat.reduceAdd, Nat.reduceLeDiff, List.length_cons, List.length_nil, not_false_eq_true, not_true_eq_false, ne_eq, or_false, false_or, or_self, false_and, and_false, or_true, true_or, ite_self, Int.add_sub_cancel, Int.sub_add_cancel, b_lc1, b_lc2, b_lc3, b_lc4, b_lc5, up_eq, up_ei, up_n1, up_n2, W32i, W8i, W16i, W64i, if_ps, if_ng, and_tr, fil_n1, fil_in, fil_out, hc]
          obtain ⟨S', r, x⟩ := ih (i + 1) (xco T f (wi f l i)) (0, wi f l i) hX hcX (by omega)
          refine ⟨S', fun Q => ?_, (xsc.co T f (wi f l i)).tr x⟩
          have r := r Q
          rw [show lpo f l (i + 1) = nt f (wi f l i + 1) by rfl, show lna f l (i + 1) = nt f (wi f l i + 2) by rfl, show ((i + 1 : Nat) : Int) = (i : Int) + 1 by omega] at r
          rw [A, if_pos a, B, if_pos b, r, zall, p, Bool.true_and]
        · have p : pCos f l m sc i = false := decide_eq_false (fun x => b x.2)
          refine ⟨xco T f (wi f l i), fun Q => ?_, xsc.co T f (wi f l i)⟩
          rw [A, if_pos a, B, if_neg b, ex0 _ hX, zall, p, Bool.false_and, zb1_f]
      · have p : pCos f l m sc i = false := decide_eq_false (fun x => a x.1)
        refine ⟨T, fun Q => ?_, xsc.rf T⟩
        rw [A, if_neg a, x_coB0 rfl rfl (by omega) (by omega), ex0 _ hT, zall, p, Bool.false_and, zb1_f]
  obtain ⟨S', r, x⟩ := lp (nc f l).toNat 0 S (9, 0) h hs (by omega)
  refine ⟨S', fun Q => ?_, x⟩
  have r := r Q
  rw [show lpo f l 0 = -1 by rfl, show lna f l 0 = 0 by rfl, show ((0 : Nat) : Int) = 0 by rfl] at r
  rw [← r]
  simp (disch := omega) only [bcd, true_and, and_true, and_self, if_true, if_false, ite_true, ite_false, reduceIte, Int.reduceEq, Int.reduceNe, Int.reduceLT, Int.reduceLE, Int.reduceAdd, Int.reduceSub, Int.reduceMul, Int.reduceNeg, Int.reduceMod, Int.reduceDiv, Int.reduceToNat, Nat.reduceAdd, Nat.reduceLeDiff, List.length_cons, List.length_nil, not_false_eq_true, not_true_eq_false, ne_eq, or_false, false_or, or_self, false_and, and_false, or_true, true_or, ite_self, Int.add_sub_cancel, Int.sub_add_cancel, b_lc1, b_lc2, b_lc3, b_lc4, b_lc5, up_eq, up_ei, up_n1, up_n2, W32i, W8i, W16i, W64i, if_ps, if_ng, and_tr, fil_n1, fil_in, fil_out, le_tt, le_ff, lt_tt, lt_ff, eq_tt, eq_ff, M249]
