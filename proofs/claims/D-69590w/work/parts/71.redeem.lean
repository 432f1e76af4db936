-- uses: 70b
def rdm (f : F) (mp l : Int) : Nat → Nat → Int → Int → Bool
  | 0, _, a, _ => decide (a = nc f mp)
  | c + 1, i, a, last => if nt f (wi f l i + 1) = last then rdm f mp l c (i + 1) a last else
      decide (a < nc f mp ∧ nf f (wi f mp (2 * a).toNat) = 3 ∧ nt f (wi f mp (2 * a).toNat) = nt f (wi f l i + 1)) && rdm f mp l c (i + 1) (a + 1) (nt f (wi f l i + 1))
theorem wi_m {f : F} {mp : Int} (v : fval 1 f) (m0 : 0 ≤ mp) (m1 : mp < fsize f) (h1 : nf f mp = 1) (a : Int) (a0 : 0 ≤ a) (ha : a < nc f mp) : mp < wi f mp (2 * a).toNat ∧ wi f mp (2 * a).toNat < fsize f ∧ 2 * a ≤ nch f mp := by
  have e : nch f mp = 2 * nc f mp := by unfold nch; rw [if_pos h1]
  have w := wi_ok f 1 mp v m0 m1 (2 * a).toNat (by omega)
  have s2 := (nW_of f 1 mp v m0 m1).s2
  have := w.2.2.1 (by omega)
  exact ⟨by omega, by omega, by omega⟩
theorem x_areRed {S : Sto} {f : F} (h : XD S f) {mp l sc : Int} (hmp : S 113 6 = mp) (hl : S 113 5 = l) (m0 : 0 ≤ mp) (m1 : mp < fsize f) (l0 : 0 ≤ l) (l1 : l < fsize f) (h2 : nf f l = 2) (hp : ∀ i : Nat, (i : Int) < nc f l → pA f (wi f l i) 1 sc) : ∃ S', zR 252 9 [(33, 33)] S S' (0, if nf f mp = 1 then zb1 (rdm f mp l (nc f l).toNat 0 0 0) else 0) ∧ xsc S S' := by
  have sz := h.sz
  have cb := nc_b h.v sz l0 l1 h2
  have wm := nW_of f 1 mp h.v m0 m1
  have k5 := (zxk_6 wm.f0).2.2.2.1
  have kd := h.kd mp m0 m1
  by_cases q : nf f mp = 1
  · rw [if_pos q]
    have kd5 : S 98 mp = 5 := by rw [kd]; exact k5.mpr q
    have c1 := wm.c1 (by omega)
    have s2 := wm.s2
    have c0 := wm.c0
    unfold nch at c1
    rw [if_pos q] at c1
    have ex0 : ∀ (T : Sto) (_ : XD T f) (_ : T 113 5 = l) (a k lt : Int) (n : AV) (Q : ZQ), zG Cd 252 (Cd 252 40) [(33, 33), (0, mp), (0, nc f mp), (0, a), (1, lt), (9, 0), (0, 0), (0, k), n] [] T Q = Q T (0, 0) := by
      intro T hT hf a k lt n Q
      have mn := fun Q => x_many hT l l0 l1 (by omega) Q
      rw [L252_40]
      by_cases z : nc f l ≤ k
      · simp (disch := omega) only [bcd, true_and, and_true, and_self, if_true, if_false, ite_true, ite_false, reduceIte, Int.reduceEq, Int.reduceNe, Int.reduceLT, Int.reduceLE, Int.reduceAdd, Int.reduceSub, Int.reduceMul, Int.reduceNeg, Int.reduceMod, Int.reduceDiv, Int.reduceToNat, Nat.reduceAdd, Nat.reduceLeDiff, List.length_cons, List.length_nil, not_false_eq_true, not_true_eq_false, ne_eq, or_false, false_or, or_self, false_and, and_false, or_true, true_or, ite_self, Int.add_sub_cancel, Int.sub_add_cancel, b_lc1, b_lc2, b_lc3, b_lc4, b_lc5, up_eq, up_ei, up_n1, up_n2, W32i, W8i, W16i, W64i, if_ps, if_ng, and_tr, fil_n1, fil_in, fil_out, le_tt, le_ff, lt_tt, lt_ff, eq_tt, eq_ff, hf, mn]
        iterate 14 (try (simp only [M252]; simp (disch := omega) only [bcd, true_and, and_true, and_self, if_true, if_false, ite_true, ite_false, reduceIte, Int.reduceEq, Int.reduceNe, Int.reduceLT, Int.reduceLE, Int.reduceAdd, Int.reduceSub, Int.reduceMul, Int.reduceNeg, Int.reduceMod, Int.reduceDiv, Int.reduceToNat, Nat.reduceAdd, Nat.reduceLeDiff, List.length_cons, List.length_nil, not_false_eq_true, not_true_eq_false, ne_eq, or_false, false_or, or_self, false_and, and_false, or_true, true_or, ite_self, Int.add_sub_cancel, Int.sub_add_cancel, b_lc1, b_lc2, b_lc3, b_lc4, b_lc5, up_eq, up_ei, up_n1, up_n2, W32i, W8i, W16i, W64i, if_ps, if_ng, and_tr, fil_n1, fil_in, fil_out, le_tt, le_ff, lt_tt, lt_ff, eq_tt, eq_ff]))
      · simp (disch := omega) only [bcd, true_and, and_true, and_self, if_true, if_false, ite_true, ite_false, reduceIte, Int.reduceEq, Int.reduceNe, Int.reduceLT, Int.reduceLE, Int.reduceAdd, Int.reduceSub, Int.reduceMul, Int.reduceNeg, Int.reduceMod, Int.reduceDiv, Int.reduceToNat, Nat.reduceAdd, Nat.reduceLeDiff, List.length_cons, List.length_nil, not_false_eq_true, not_true_eq_false, ne_eq, or_false, false_or, or_self, false_and, and_false, or_true, true_or, ite_self, Int.add_sub_cancel, Int.sub_add_cancel, b_lc1, b_lc2, b_lc3, b_lc4, b_lc5, up_eq, up_ei, up_n1, up_n2, W32i, W8i, W16i, W64i, if_ps, if_ng, and_tr, fil_n1, fil_in, fil_out, le_tt, le_ff, lt_tt, lt_ff, eq_tt, eq_ff, hf, mn]
        iterate 14 (try (simp only [M252]; simp (disch := omega) only [bcd, true_and, and_true, and_self, if_true, if_false, ite_true, ite_false, reduceIte, Int.reduceEq, Int.reduceNe, Int.reduceLT, Int.reduceLE, Int.reduceAdd, Int.reduceSub, Int.reduceMul, Int.reduceNeg, Int.reduceMod, Int.reduceDiv, Int.reduceToNat, Nat.reduceAdd, Nat.reduceLeDiff, List.length_cons, List.length_nil, not_false_eq_true, not_true_eq_false, ne_eq, or_false, false_or, or_self, false_and, and_false, or_true, true_or, ite_self, Int.add_sub_cancel, Int.sub_add_cancel, b_lc1, b_lc2, b_lc3, b_lc4, b_lc5, up_eq, up_ei, up_n1, up_n2, W32i, W8i, W16i, W64i, if_ps, if_ng, and_tr, fil_n1, fil_in, fil_out, le_tt, le_ff, lt_tt, lt_ff, eq_tt, eq_ff]))
    have lp : ∀ (c i : Nat) (T : Sto) (n : AV) (a lt : Int), XD T f → T 113 5 = l → (i : Int) + c = nc f l → 0 ≤ a → a ≤ i → ∃ S', (∀ Q : ZQ, zG Cd 252 (Cd 252 40) [(33, 33), (0, mp), (0, nc f mp), (0, a), (1, lt), (9, 0), (0, 1), (0, (i : Int)), n] [] T Q = Q S' (0, zb1 (rdm f mp l c i a lt))) ∧ xsc T S' := by
      intro c
      induction c with
      | zero =>
        intro i T n a lt hT hf hi a0 a1
        refine ⟨T, fun Q => ?_, xsc.rf T⟩
        have mn := fun Q => x_many hT l l0 l1 (by omega) Q
        rw [L252_40, rdm]
        by_cases z : a = nc f mp
        · rw [decide_eq_true z, zb1_t]
          simp (disch := omega) only [bcd, true_and, and_true, and_self, if_true, if_false, ite_true, ite_false, reduceIte, Int.reduceEq, Int.reduceNe, Int.reduceLT, Int.reduceLE, Int.reduceAdd, Int.reduceSub, Int.reduceMul, Int.reduceNeg, Int.reduceMod, Int.reduceDiv, Int.reduceToNat, Nat.reduceAdd, Nat.reduceLeDiff, List.length_cons, List.length_nil, not_false_eq_true, not_true_eq_false, ne_eq, or_false, false_or, or_self, false_and, and_false, or_true, true_or, ite_self, Int.add_sub_cancel, Int.sub_add_cancel, b_lc1, b_lc2, b_lc3, b_lc4, b_lc5, up_eq, up_ei, up_n1, up_n2, W32i, W8i, W16i, W64i, if_ps, if_ng, and_tr, fil_n1, fil_in, fil_out, le_tt, le_ff, lt_tt, lt_ff, eq_tt, eq_ff, hf, mn]
          iterate 14 (try (simp only [M252]; simp (disch := omega) only [bcd, true_and, and_true, and_self, if_true, if_false, ite_true, ite_false, reduceIte, Int.reduceEq, Int.reduceNe, Int.reduceLT, Int.reduceLE, Int.reduceAdd, Int.reduceSub, Int.reduceMul, Int.reduceNeg, Int.reduceMod, Int.reduceDiv, Int.reduceToNat, Nat.reduceAdd, Nat.reduceLeDiff, List.length_cons, List.length_nil, not_false_eq_true, not_true_eq_false, ne_eq, or_false, false_or, or_self, false_and, and_false, or_true, true_or, ite_self, Int.add_sub_cancel, Int.sub_add_cancel, b_lc1, b_lc2, b_lc3, b_lc4, b_lc5, up_eq, up_ei, up_n1, up_n2, W32i, W8i, W16i, W64i, if_ps, if_ng, and_tr, fil_n1, fil_in, fil_out, le_tt, le_ff, lt_tt, lt_ff, eq_tt, eq_ff]))
        · rw [decide_eq_false z, zb1_f]
          simp (disch := omega) only [bcd, true_and, and_true, and_self, if_true, if_false, ite_true, ite_false, reduceIte, Int.reduceEq, Int.reduceNe, Int.reduceLT, Int.reduceLE, Int.reduceAdd, Int.reduceSub, Int.reduceMul, Int.reduceNeg, Int.reduceMod, Int.reduceDiv, Int.reduceToNat, Nat.reduceAdd, Nat.reduceLeDiff, List.length_cons, List.length_nil, not_false_eq_true, not_true_eq_false, ne_eq, or_false, false_or, or_self, false_and, and_false, or_true, true_or, ite_self, Int.add_sub_cancel, Int.sub_add_cancel, b_lc1, b_lc2, b_lc3, b_lc4, b_lc5, up_eq, up_ei, up_n1, up_n2, W32i, W8i, W16i, W64i, if_ps, if_ng, and_tr, fil_n1, fil_in, fil_out, le_tt, le_ff, lt_tt, lt_ff, eq_tt, eq_ff, hf, mn]
          iterate 14 (try (simp only [M252]; simp (disch := omega) only [bcd, true_and, and_true, and_self, if_true, if_false, ite_true, ite_false, reduceIte, Int.reduceEq, Int.reduceNe, Int.reduceLT, Int.reduceLE, Int.reduceAdd, Int.reduceSub, Int.reduceMul, Int.reduceNeg, Int.reduceMod, Int.reduceDiv, Int.reduceToNat, Nat.reduceAdd, Nat.reduceLeDiff, List.length_cons, List.length_nil, not_false_eq_true, not_true_eq_false, ne_eq, or_false, false_or, or_self, false_and, and_false, or_true, true_or, ite_self, Int.add_sub_cancel, Int.sub_add_cancel, b_lc1, b_lc2, b_lc3, b_lc4, b_lc5, up_eq, up_ei, up_n1, up_n2, W32i, W8i, W16i, W64i, if_ps, if_ng, and_tr, fil_n1, fil_in, fil_out, le_tt, le_ff, lt_tt, lt_ff, eq_tt, eq_ff]))
      | succ c ih =>
        intro i T n a lt hT hf hi a0 a1
        have pa := hp i (by omega)
        obtain ⟨b1, b2, b3⟩ := wi_l h.v l0 l1 h2 i (by omega)
        have nk := nk_in h.v (by omega) b2 (Or.inr pa.1.1) (show nc f (wi f l i) = 3 by have := pa.1.2; omega)
        have mn := fun Q => x_many hT l l0 l1 (by omega) Q
        have co := fun Q => x_coin1 hT l i l0 l1 h2 (by omega) (by omega) pa.2.1.1 pa.2.2.1 pa.2.2.2 Q
        obtain ⟨X, hX⟩ : ∃ X, X = xco T f (wi f l i) := ⟨_, rfl⟩
        rw [← hX] at co
        have xs : xsc T X := by rw [hX]; exact xsc.co T f (wi f l i)
        have dX := hT.sc xs
        have pX : X 33 4 = nt f (wi f l i + 1) := by rw [hX]; unfold xco; simp (disch := omega) only [true_and, and_true, and_self, if_true, if_false, ite_true, ite_false, reduceIte, Int.reduceEq, Int.reduceNe, Int.reduceLT, Int.reduceLE, Int.reduceAdd, Int.reduceSub, Int.reduceMul, Int.reduceNeg, Int.reduceMod, Int.reduceDiv, Int.reduceToNat, Nat.reduceAdd, Nat.reduceLeDiff, List.length_cons, List.length_nil, not_false_eq_true, not_true_eq_false, ne_eq, or_false, false_or, or_self, false_and, and_false, or_true, true_or, ite_self, Int.add_sub_cancel, Int.sub_add_cancel, b_lc1, b_lc2, b_lc3, b_lc4, b_lc5, up_eq, up_ei, up_n1, up_n2, W32i, W8i, W16i, W64i, if_ps, if_ng, and_tr, fil_n1, fil_in, fil_out]
        have fX : X 113 5 = l := by rw [xs.2 _ (by decide)]; exact hf
        rw [rdm]
        by_cases z : nt f (wi f l i + 1) = lt
        · obtain ⟨S', r, x⟩ := ih (i + 1) X (0, 1) a lt dX fX (by omega) a0 (by omega)
          refine ⟨S', fun Q => ?_, xs.tr x⟩
          have r := r Q
          rw [show ((i + 1 : Nat) : Int) = (i : Int) + 1 by omega] at r
          rw [if_pos z, L252_40]
          simp (disch := omega) only [bcd, true_and, and_true, and_self, if_true, if_false, ite_true, ite_false, reduceIte, Int.reduceEq, Int.reduceNe, Int.reduceLT, Int.reduceLE, Int.reduceAdd, Int.reduceSub, Int.reduceMul, Int.reduceNeg, Int.reduceMod, Int.reduceDiv, Int.reduceToNat, Nat.reduceAdd, Nat.reduceLeDiff, List.length_cons, List.length_nil, not_false_eq_true, not_true_eq_false, ne_eq, or_false, false_or, or_self, false_and, and_false, or_true, true_or, ite_self, Int.add_sub_cancel, Int.sub_add_cancel, b_lc1, b_lc2, b_lc3, b_lc4, b_lc5, up_eq, up_ei, up_n1, up_n2, W32i, W8i, W16i, W64i, if_ps, if_ng, and_tr, fil_n1, fil_in, fil_out, le_tt, le_ff, lt_tt, lt_ff, eq_tt, eq_ff, hf, mn, co, pX, z]
          iterate 14 (try (simp only [M252]; simp (disch := omega) only [bcd, true_and, and_true, and_self, if_true, if_false, ite_true, ite_false, reduceIte, Int.reduceEq, Int.reduceNe, Int.reduceLT, Int.reduceLE, Int.reduceAdd, Int.reduceSub, Int.reduceMul, Int.reduceNeg, Int.reduceMod, Int.reduceDiv, Int.reduceToNat, Nat.reduceAdd, Nat.reduceLeDiff, List.length_cons, List.length_nil, not_false_eq_true, not_true_eq_false, ne_eq, or_false, false_or, or_self, false_and, and_false, or_true, true_or, ite_self, Int.add_sub_cancel, Int.sub_add_cancel, b_lc1, b_lc2, b_lc3, b_lc4, b_lc5, up_eq, up_ei, up_n1, up_n2, W32i, W8i, W16i, W64i, if_ps, if_ng, and_tr, fil_n1, fil_in, fil_out, le_tt, le_ff, lt_tt, lt_ff, eq_tt, eq_ff, pX, z, r]))
        · rw [if_neg z]
          by_cases w : a < nc f mp
          · obtain ⟨d1, d2, d3⟩ := wi_m h.v m0 m1 q a a0 w
            have wt := fun Q => x_within dX mp (2 * a) m0 m1 d3 (by omega) Q
            have ii := fun Q => x_isInt dX (wi f mp (2 * a).toNat) (by omega) d2 Q
            have vv := fun Q => x_value dX (wi f mp (2 * a).toNat) (by omega) d2 Q
            by_cases u : nf f (wi f mp (2 * a).toNat) = 3
            · simp only [if_pos u] at ii vv
              by_cases t : nt f (wi f mp (2 * a).toNat) = nt f (wi f l i + 1)
              · obtain ⟨S', r, x⟩ := ih (i + 1) X (0, 1) (a + 1) (nt f (wi f l i + 1)) dX fX (by omega) (by omega) (by omega)
                refine ⟨S', fun Q => ?_, xs.tr x⟩
                have r := r Q
                rw [show ((i + 1 : Nat) : Int) = (i : Int) + 1 by omega] at r
                rw [decide_eq_true ⟨w, u, t⟩, Bool.true_and, L252_40]
                simp (disch := omega) only [bcd, true_and, and_true, and_self, if_true, if_false, ite_true, ite_false, reduceIte, Int.reduceEq, Int.reduceNe, Int.reduceLT, Int.reduceLE, Int.reduceAdd, Int.reduceSub, Int.reduceMul, Int.reduceNeg, Int.reduceMod, Int.reduceDiv, Int.reduceToNat, Nat.reduceAdd, Nat.reduceLeDiff, List.length_cons, List.length_nil, not_false_eq_true, not_true_eq_false, ne_eq, or_false, false_or, or_self, false_and, and_false, or_true, true_or, ite_self, Int.add_sub_cancel, Int.sub_add_cancel, b_lc1, b_lc2, b_lc3, b_lc4, b_lc5, up_eq, up_ei, up_n1, up_n2, W32i, W8i, W16i, W64i, if_ps, if_ng, and_tr, fil_n1, fil_in, fil_out, le_tt, le_ff, lt_tt, lt_ff, eq_tt, eq_ff, hf, mn, co, pX, z, wt, ii, vv, t]
                iterate 14 (try (simp only [M252]; simp (disch := omega) only [bcd, true_and, and_true, and_self, if_true, if_false, ite_true, ite_false, reduceIte, Int.reduceEq, Int.reduceNe, Int.reduceLT, Int.reduceLE, Int.reduceAdd, Int.reduceSub, Int.reduceMul, Int.reduceNeg, Int.reduceMod, Int.reduceDiv, Int.reduceToNat, Nat.reduceAdd, Nat.reduceLeDiff, List.length_cons, List.length_nil, not_false_eq_true, not_true_eq_false, ne_eq, or_false, false_or, or_self, false_and, and_false, or_true, true_or, ite_self, Int.add_sub_cancel, Int.sub_add_cancel, b_lc1, b_lc2, b_lc3, b_lc4, b_lc5, up_eq, up_ei, up_n1, up_n2, W32i, W8i, W16i, W64i, if_ps, if_ng, and_tr, fil_n1, fil_in, fil_out, le_tt, le_ff, lt_tt, lt_ff, eq_tt, eq_ff, pX, z, wt, ii, vv, t, r]))
              · refine ⟨X, fun Q => ?_, xs⟩
                have E := ex0 X dX fX (a + 1) ((i : Int) + 1) (nt f (wi f l i + 1)) (0, 1) Q
                rw [decide_eq_false (fun y => t y.2.2), Bool.false_and, zb1_f, L252_40]
                simp (disch := omega) only [bcd, true_and, and_true, and_self, if_true, if_false, ite_true, ite_false, reduceIte, Int.reduceEq, Int.reduceNe, Int.reduceLT, Int.reduceLE, Int.reduceAdd, Int.reduceSub, Int.reduceMul, Int.reduceNeg, Int.reduceMod, Int.reduceDiv, Int.reduceToNat, Nat.reduceAdd, Nat.reduceLeDiff, List.length_cons, List.length_nil, not_false_eq_true, not_true_eq_false, ne_eq, or_false, false_or, or_self, false_and, and_false, or_true, true_or, ite_self, Int.add_sub_cancel, Int.sub_add_cancel, b_lc1, b_lc2, b_lc3, b_lc4, b_lc5, up_eq, up_ei, up_n1, up_n2, W32i, W8i, W16i, W64i, if_ps, if_ng, and_tr, fil_n1, fil_in, fil_out, le_tt, le_ff, lt_tt, lt_ff, eq_tt, eq_ff, hf, mn, co, pX, z, wt, ii, vv, t]
                iterate 14 (try (simp only [M252]; simp (disch := omega) only [bcd, true_and, and_true, and_self, if_true, if_false, ite_true, ite_false, reduceIte, Int.reduceEq, Int.reduceNe, Int.reduceLT, Int.reduceLE, Int.reduceAdd, Int.reduceSub, Int.reduceMul, Int.reduceNeg, Int.reduceMod, Int.reduceDiv, Int.reduceToNat, Nat.reduceAdd, Nat.reduceLeDiff, List.length_cons, List.length_nil, not_false_eq_true, not_true_eq_false, ne_eq, or_false, false_or, or_self, false_and, and_false, or_true, true_or, ite_self, Int.add_sub_cancel, Int.sub_add_cancel, b_lc1, b_lc2, b_lc3, b_lc4, b_lc5, up_eq, up_ei, up_n1, up_n2, W32i, W8i, W16i, W64i, if_ps, if_ng, and_tr, fil_n1, fil_in, fil_out, le_tt, le_ff, lt_tt, lt_ff, eq_tt, eq_ff, pX, z, wt, ii, vv, t, E]))
            · simp only [if_neg u] at ii
              refine ⟨X, fun Q => ?_, xs⟩
              have E := ex0 X dX fX (a + 1) ((i : Int) + 1) (nt f (wi f l i + 1)) (0, 1) Q
              rw [decide_eq_false (fun y => u y.2.1), Bool.false_and, zb1_f, L252_40]
              simp (disch := omega) only [bcd, true_and, and_true, and_self, if_true, if_false, ite_true, ite_false, reduceIte, Int.reduceEq, Int.reduceNe, Int.reduceLT, Int.reduceLE, Int.reduceAdd, Int.reduceSub, Int.reduceMul, Int.reduceNeg, Int.reduceMod, Int.reduceDiv, Int.reduceToNat, Nat.reduceAdd, Nat.reduceLeDiff, List.length_cons, List.length_nil, not_false_eq_true, not_true_eq_false, ne_eq, or_false, false_or, or_self, false_and, and_false, or_true, true_or, ite_self, Int.add_sub_cancel, Int.sub_add_cancel, b_lc1, b_lc2, b_lc3, b_lc4, b_lc5, up_eq, up_ei, up_n1, up_n2, W32i, W8i, W16i, W64i, if_ps, if_ng, and_tr, fil_n1, fil_in, fil_out, le_tt, le_ff, lt_tt, lt_ff, eq_tt, eq_ff, hf, mn, co, pX, z, wt, ii]
              iterate 14 (try (simp only [M252]; simp (disch := omega) only [bcd, true_and, and_true, and_self, if_true, if_false, ite_true, ite_false, reduceIte, Int.reduceEq, Int.reduceNe, Int.reduceLT, Int.reduceLE, Int.reduceAdd, Int.reduceSub, Int.reduceMul, Int.reduceNeg, Int.reduceMod, Int.reduceDiv, Int.reduceToNat, Nat.reduceAdd, Nat.reduceLeDiff, List.length_cons, List.length_nil, not_false_eq_true, not_true_eq_false, ne_eq, or_false, false_or, or_self, false_and, and_false, or_true, true_or, ite_self, Int.add_sub_cancel, Int.sub_add_cancel, b_lc1, b_lc2, b_lc3, b_lc4, b_lc5, up_eq, up_ei, up_n1, up_n2, W32i, W8i, W16i, W64i, if_ps, if_ng, and_tr, fil_n1, fil_in, fil_out, le_tt, le_ff, lt_tt, lt_ff, eq_tt, eq_ff, pX, z, wt, ii, E]))
          · refine ⟨X, fun Q => ?_, xs⟩
            have E := ex0 X dX fX (a + 1) ((i : Int) + 1) (nt f (wi f l i + 1)) (0, 1) Q
            rw [decide_eq_false (fun y => w y.1), Bool.false_and, zb1_f, L252_40]
            simp (disch := omega) only [bcd, true_and, and_true, and_self, if_true, if_false, ite_true, ite_false, reduceIte, Int.reduceEq, Int.reduceNe, Int.reduceLT, Int.reduceLE, Int.reduceAdd, Int.reduceSub, Int.reduceMul, Int.reduceNeg, Int.reduceMod, Int.reduceDiv, Int.reduceToNat, Nat.reduceAdd, Nat.reduceLeDiff, List.length_cons, List.length_nil, not_false_eq_true, not_true_eq_false, ne_eq, or_false, false_or, or_self, false_and, and_false, or_true, true_or, ite_self, Int.add_sub_cancel, Int.sub_add_cancel, b_lc1, b_lc2, b_lc3, b_lc4, b_lc5, up_eq, up_ei, up_n1, up_n2, W32i, W8i, W16i, W64i, if_ps, if_ng, and_tr, fil_n1, fil_in, fil_out, le_tt, le_ff, lt_tt, lt_ff, eq_tt, eq_ff, hf, mn, co, pX, z]
            iterate 14 (try (simp only [M252]; simp (disch := omega) only [bcd, true_and, and_true, and_self, if_true, if_false, ite_true, ite_false, reduceIte, Int.reduceEq, Int.reduceNe, Int.reduceLT, Int.reduceLE, Int.reduceAdd, Int.reduceSub, Int.reduceMul, Int.reduceNeg, Int.reduceMod, Int.reduceDiv, Int.reduceToNat, Nat.reduceAdd, Nat.reduceLeDiff, List.length_cons, List.length_nil, not_false_eq_true, not_true_eq_false, ne_eq, or_false, false_or, or_self, false_and, and_false, or_true, true_or, ite_self, Int.add_sub_cancel, Int.sub_add_cancel, b_lc1, b_lc2, b_lc3, b_lc4, b_lc5, up_eq, up_ei, up_n1, up_n2, W32i, W8i, W16i, W64i, if_ps, if_ng, and_tr, fil_n1, fil_in, fil_out, le_tt, le_ff, lt_tt, lt_ff, eq_tt, eq_ff, pX, z, E]))
    obtain ⟨S', r, x⟩ := lp (nc f l).toNat 0 S (9, 0) 0 0 h hl (by omega) (by omega) (by omega)
    refine ⟨S', fun Q => ?_, x⟩
    have r := r Q
    rw [show ((0 : Nat) : Int) = 0 by rfl] at r
    have mm := fun Q => x_many h mp m0 m1 (by omega) Q
    rw [← r]
    iterate 14 (try (simp only [M252]; simp (disch := omega) only [bcd, true_and, and_true, and_self, if_true, if_false, ite_true, ite_false, reduceIte, Int.reduceEq, Int.reduceNe, Int.reduceLT, Int.reduceLE, Int.reduceAdd, Int.reduceSub, Int.reduceMul, Int.reduceNeg, Int.reduceMod, Int.reduceDiv, Int.reduceToNat, Nat.reduceAdd, Nat.reduceLeDiff, List.length_cons, List.length_nil, not_false_eq_true, not_true_eq_false, ne_eq, or_false, false_or, or_self, false_and, and_false, or_true, true_or, ite_self, Int.add_sub_cancel, Int.sub_add_cancel, b_lc1, b_lc2, b_lc3, b_lc4, b_lc5, up_eq, up_ei, up_n1, up_n2, W32i, W8i, W16i, W64i, if_ps, if_ng, and_tr, fil_n1, fil_in, fil_out, le_tt, le_ff, lt_tt, lt_ff, eq_tt, eq_ff, hmp, kd5, mm]))
  · rw [if_neg q]
    have kd5 : ¬ S 98 mp = 5 := by rw [kd, k5]; exact q
    refine ⟨S, fun Q => ?_, xsc.rf S⟩
    iterate 14 (try (simp only [M252]; simp (disch := omega) only [bcd, true_and, and_true, and_self, if_true, if_false, ite_true, ite_false, reduceIte, Int.reduceEq, Int.reduceNe, Int.reduceLT, Int.reduceLE, Int.reduceAdd, Int.reduceSub, Int.reduceMul, Int.reduceNeg, Int.reduceMod, Int.reduceDiv, Int.reduceToNat, Nat.reduceAdd, Nat.reduceLeDiff, List.length_cons, List.length_nil, not_false_eq_true, not_true_eq_false, ne_eq, or_false, false_or, or_self, false_and, and_false, or_true, true_or, ite_self, Int.add_sub_cancel, Int.sub_add_cancel, b_lc1, b_lc2, b_lc3, b_lc4, b_lc5, up_eq, up_ei, up_n1, up_n2, W32i, W8i, W16i, W64i, if_ps, if_ng, and_tr, fil_n1, fil_in, fil_out, le_tt, le_ff, lt_tt, lt_ff, eq_tt, eq_ff, hmp, kd5]))
