-- uses: 74
def pOuts (f : F) (l sc : Int) (i : Nat) : Bool := decide (pOut f (wi f l i) sc)
/-- one output of X's loop -/
theorem x_out1 {S : Sto} {f : F} (h : XD S f) {l sc : Int} (hl : S 113 2 = l) (l0 : 0 ≤ l) (l1 : l < fsize f) (h2 : nf f l = 2) (hs : S 33 2 = sc) (s0 : 0 ≤ sc ∧ sc ≤ 32) (i : Nat) (hi : (i : Int) < nc f l) (y : AV) : ∃ S', (∀ Q : ZQ, zG Cd 247 (Cd 247 4) [(33, 33), (0, 1), (0, (i : Int)), y] [] S Q = zG Cd 247 (Cd 247 4) [(33, 33), (0, zb1 (pOuts f l sc i)), (0, (i : Int) + 1), (0, wi f l i)] [] S' Q) ∧ xsc S S' := by
  have sz := h.sz
  have cb := nc_b h.v sz l0 l1 h2
  obtain ⟨o1, o2, o3⟩ := wi_l h.v l0 l1 h2 i hi
  have mn := fun Q => x_many h l l0 l1 (by omega) Q
  have wt := fun Q => x_within h l (i : Int) l0 l1 (by omega) (by omega) Q
  rw [show ((i : Int)).toNat = i by omega] at wt
  obtain ⟨n, hn⟩ : ∃ n, wi f l i = n := ⟨_, rfl⟩
  unfold pOuts
  rw [hn] at wt o1 o2 ⊢
  have n0 : 0 ≤ n := by omega
  have im := fun Q => x_isMade h n 0 3 n0 o2 Q
  by_cases a : cM f n 0 3
  · simp only [if_pos a] at im
    obtain ⟨a1, a2, a3⟩ := wi_c h.v n0 o2 a.1 a.2.2 0 (by decide)
    obtain ⟨b1, b2, b3⟩ := wi_c h.v n0 o2 a.1 a.2.2 1 (by decide)
    obtain ⟨c1, c2, c3⟩ := wi_c h.v n0 o2 a.1 a.2.2 2 (by decide)
    have w0 := fun Q => x_within h n 0 n0 o2 (by omega) (by omega) Q
    have w1 := fun Q => x_within h n 1 n0 o2 (by omega) (by omega) Q
    rw [show (0 : Int).toNat = 0 by rfl] at w0
    rw [show (1 : Int).toNat = 1 by rfl] at w1
    have ia := fun Q => x_isAddr h (wi f n 0) sc hs s0 (by omega) a2 Q
    have il := fun Q => x_isList h (wi f n 1) 1 8 (by omega) b2 Q
    by_cases d1 : pAd f (wi f n 0) sc
    · simp only [if_pos d1] at ia
      by_cases d2 : cL f (wi f n 1) 1 8
      · simp only [if_pos d2] at il
        obtain ⟨S', co, xs⟩ := x_areCoins h (l := wi f n 1) (m := 0) (sc := sc) (by omega) b2 d2.1 hs (Or.inl rfl)
        unfold zR at co
        have hX := h.sc xs
        refine ⟨S', fun Q => ?_, xs⟩
        by_cases hz : zall (pCos f (wi f n 1) 0 sc) (nc f (wi f n 1)).toNat 0 = true
        · rw [hz, zb1_t] at co
          have w2 := fun Q => x_within hX n 2 n0 o2 (by omega) (by omega) Q
          rw [show (2 : Int).toNat = 2 by rfl] at w2
          have le := fun Q => x_lenPart hX (wi f n 2) (by omega) c2 Q
          by_cases d3 : fhp f (wi f n 2 + ns f (wi f n 2)) - fhp f (wi f n 2) ≤ 128
          · rw [decide_eq_true (show pOut f n sc from ⟨a, d1, d2, hz, d3⟩), zb1_t]
            conv => lhs; rw [L247_4]
            clear a d1 d2
            simp (disch := omega) only [bcd, true_and, and_true, and_self, if_true, if_false, ite_true, ite_false, reduceIte, Int.reduceEq, Int.reduceNe, Int.reduceLT, Int.reduceLE, Int.reduceAdd, Int.reduceSub, Int.reduceMul, Int.reduceNeg, Int.reduceMod, Int.reduceDiv, Int.reduceToNat, Nat.reduceAdd, Nat.reduceLeDiff, List.length_cons, List.length_nil, not_false_eq_true, not_true_eq_false, ne_eq, or_false, false_or, or_self, false_and, and_false, or_true, true_or, ite_self, Int.add_sub_cancel, Int.sub_add_cancel, b_lc1, b_lc2, b_lc3, b_lc4, b_lc5, up_eq, up_ei, up_n1, up_n2, W32i, W8i, W16i, W64i, if_ps, if_ng, and_tr, fil_n1, fil_in, fil_out, le_tt, le_ff, lt_tt, lt_ff, eq_tt, eq_ff, hl, mn, wt, im, w0, ia, w1, il, co, w2, le]
            iterate 14 (try (simp only [M247]; simp (disch := omega) only [bcd, true_and, and_true, and_self, if_true, if_false, ite_true, ite_false, reduceIte, Int.reduceEq, Int.reduceNe, Int.reduceLT, Int.reduceLE, Int.reduceAdd, Int.reduceSub, Int.reduceMul, Int.reduceNeg, Int.reduceMod, Int.reduceDiv, Int.reduceToNat, Nat.reduceAdd, Nat.reduceLeDiff, List.length_cons, List.length_nil, not_false_eq_true, not_true_eq_false, ne_eq, or_false, false_or, or_self, false_and, and_false, or_true, true_or, ite_self, Int.add_sub_cancel, Int.sub_add_cancel, b_lc1, b_lc2, b_lc3, b_lc4, b_lc5, up_eq, up_ei, up_n1, up_n2, W32i, W8i, W16i, W64i, if_ps, if_ng, and_tr, fil_n1, fil_in, fil_out, le_tt, le_ff, lt_tt, lt_ff, eq_tt, eq_ff]))
          · rw [decide_eq_false (show ¬ pOut f n sc from fun x => d3 x.2.2.2.2), zb1_f]
            conv => lhs; rw [L247_4]
            clear a d1 d2
            simp (disch := omega) only [bcd, true_and, and_true, and_self, if_true, if_false, ite_true, ite_false, reduceIte, Int.reduceEq, Int.reduceNe, Int.reduceLT, Int.reduceLE, Int.reduceAdd, Int.reduceSub, Int.reduceMul, Int.reduceNeg, Int.reduceMod, Int.reduceDiv, Int.reduceToNat, Nat.reduceAdd, Nat.reduceLeDiff, List.length_cons, List.length_nil, not_false_eq_true, not_true_eq_false, ne_eq, or_false, false_or, or_self, false_and, and_false, or_true, true_or, ite_self, Int.add_sub_cancel, Int.sub_add_cancel, b_lc1, b_lc2, b_lc3, b_lc4, b_lc5, up_eq, up_ei, up_n1, up_n2, W32i, W8i, W16i, W64i, if_ps, if_ng, and_tr, fil_n1, fil_in, fil_out, le_tt, le_ff, lt_tt, lt_ff, eq_tt, eq_ff, hl, mn, wt, im, w0, ia, w1, il, co, w2, le]
            iterate 14 (try (simp only [M247]; simp (disch := omega) only [bcd, true_and, and_true, and_self, if_true, if_false, ite_true, ite_false, reduceIte, Int.reduceEq, Int.reduceNe, Int.reduceLT, Int.reduceLE, Int.reduceAdd, Int.reduceSub, Int.reduceMul, Int.reduceNeg, Int.reduceMod, Int.reduceDiv, Int.reduceToNat, Nat.reduceAdd, Nat.reduceLeDiff, List.length_cons, List.length_nil, not_false_eq_true, not_true_eq_false, ne_eq, or_false, false_or, or_self, false_and, and_false, or_true, true_or, ite_self, Int.add_sub_cancel, Int.sub_add_cancel, b_lc1, b_lc2, b_lc3, b_lc4, b_lc5, up_eq, up_ei, up_n1, up_n2, W32i, W8i, W16i, W64i, if_ps, if_ng, and_tr, fil_n1, fil_in, fil_out, le_tt, le_ff, lt_tt, lt_ff, eq_tt, eq_ff]))
        · rw [Bool.eq_false_iff.mpr hz, zb1_f] at co
          rw [decide_eq_false (show ¬ pOut f n sc from fun x => hz x.2.2.2.1), zb1_f]
          conv => lhs; rw [L247_4]
          clear a d1 d2
          simp (disch := omega) only [bcd, true_and, and_true, and_self, if_true, if_false, ite_true, ite_false, reduceIte, Int.reduceEq, Int.reduceNe, Int.reduceLT, Int.reduceLE, Int.reduceAdd, Int.reduceSub, Int.reduceMul, Int.reduceNeg, Int.reduceMod, Int.reduceDiv, Int.reduceToNat, Nat.reduceAdd, Nat.reduceLeDiff, List.length_cons, List.length_nil, not_false_eq_true, not_true_eq_false, ne_eq, or_false, false_or, or_self, false_and, and_false, or_true, true_or, ite_self, Int.add_sub_cancel, Int.sub_add_cancel, b_lc1, b_lc2, b_lc3, b_lc4, b_lc5, up_eq, up_ei, up_n1, up_n2, W32i, W8i, W16i, W64i, if_ps, if_ng, and_tr, fil_n1, fil_in, fil_out, le_tt, le_ff, lt_tt, lt_ff, eq_tt, eq_ff, hl, mn, wt, im, w0, ia, w1, il, co]
          iterate 14 (try (simp only [M247]; simp (disch := omega) only [bcd, true_and, and_true, and_self, if_true, if_false, ite_true, ite_false, reduceIte, Int.reduceEq, Int.reduceNe, Int.reduceLT, Int.reduceLE, Int.reduceAdd, Int.reduceSub, Int.reduceMul, Int.reduceNeg, Int.reduceMod, Int.reduceDiv, Int.reduceToNat, Nat.reduceAdd, Nat.reduceLeDiff, List.length_cons, List.length_nil, not_false_eq_true, not_true_eq_false, ne_eq, or_false, false_or, or_self, false_and, and_false, or_true, true_or, ite_self, Int.add_sub_cancel, Int.sub_add_cancel, b_lc1, b_lc2, b_lc3, b_lc4, b_lc5, up_eq, up_ei, up_n1, up_n2, W32i, W8i, W16i, W64i, if_ps, if_ng, and_tr, fil_n1, fil_in, fil_out, le_tt, le_ff, lt_tt, lt_ff, eq_tt, eq_ff]))
      · simp only [if_neg d2] at il
        refine ⟨S, fun Q => ?_, xsc.rf S⟩
        rw [decide_eq_false (show ¬ pOut f n sc from fun x => d2 x.2.2.1), zb1_f]
        conv => lhs; rw [L247_4]
        clear a d1 d2
        simp (disch := omega) only [bcd, true_and, and_true, and_self, if_true, if_false, ite_true, ite_false, reduceIte, Int.reduceEq, Int.reduceNe, Int.reduceLT, Int.reduceLE, Int.reduceAdd, Int.reduceSub, Int.reduceMul, Int.reduceNeg, Int.reduceMod, Int.reduceDiv, Int.reduceToNat, Nat.reduceAdd, Nat.reduceLeDiff, List.length_cons, List.length_nil, not_false_eq_true, not_true_eq_false, ne_eq, or_false, false_or, or_self, false_and, and_false, or_true, true_or, ite_self, Int.add_sub_cancel, Int.sub_add_cancel, b_lc1, b_lc2, b_lc3, b_lc4, b_lc5, up_eq, up_ei, up_n1, up_n2, W32i, W8i, W16i, W64i, if_ps, if_ng, and_tr, fil_n1, fil_in, fil_out, le_tt, le_ff, lt_tt, lt_ff, eq_tt, eq_ff, hl, mn, wt, im, w0, ia, w1, il]
        iterate 14 (try (simp only [M247]; simp (disch := omega) only [bcd, true_and, and_true, and_self, if_true, if_false, ite_true, ite_false, reduceIte, Int.reduceEq, Int.reduceNe, Int.reduceLT, Int.reduceLE, Int.reduceAdd, Int.reduceSub, Int.reduceMul, Int.reduceNeg, Int.reduceMod, Int.reduceDiv, Int.reduceToNat, Nat.reduceAdd, Nat.reduceLeDiff, List.length_cons, List.length_nil, not_false_eq_true, not_true_eq_false, ne_eq, or_false, false_or, or_self, false_and, and_false, or_true, true_or, ite_self, Int.add_sub_cancel, Int.sub_add_cancel, b_lc1, b_lc2, b_lc3, b_lc4, b_lc5, up_eq, up_ei, up_n1, up_n2, W32i, W8i, W16i, W64i, if_ps, if_ng, and_tr, fil_n1, fil_in, fil_out, le_tt, le_ff, lt_tt, lt_ff, eq_tt, eq_ff]))
    · simp only [if_neg d1] at ia
      refine ⟨S, fun Q => ?_, xsc.rf S⟩
      rw [decide_eq_false (show ¬ pOut f n sc from fun x => d1 x.2.1), zb1_f]
      conv => lhs; rw [L247_4]
      clear a d1
      simp (disch := omega) only [bcd, true_and, and_true, and_self, if_true, if_false, ite_true, ite_false, reduceIte, Int.reduceEq, Int.reduceNe, Int.reduceLT, Int.reduceLE, Int.reduceAdd, Int.reduceSub, Int.reduceMul, Int.reduceNeg, Int.reduceMod, Int.reduceDiv, Int.reduceToNat, Nat.reduceAdd, Nat.reduceLeDiff, List.length_cons, List.length_nil, not_false_eq_true, not_true_eq_false, ne_eq, or_false, false_or, or_self, false_and, and_false, or_true, true_or, ite_self, Int.add_sub_cancel, Int.sub_add_cancel, b_lc1, b_lc2, b_lc3, b_lc4, b_lc5, up_eq, up_ei, up_n1, up_n2, W32i, W8i, W16i, W64i, if_ps, if_ng, and_tr, fil_n1, fil_in, fil_out, le_tt, le_ff, lt_tt, lt_ff, eq_tt, eq_ff, hl, mn, wt, im, w0, ia]
      iterate 14 (try (simp only [M247]; simp (disch := omega) only [bcd, true_and, and_true, and_self, if_true, if_false, ite_true, ite_false, reduceIte, Int.reduceEq, Int.reduceNe, Int.reduceLT, Int.reduceLE, Int.reduceAdd, Int.reduceSub, Int.reduceMul, Int.reduceNeg, Int.reduceMod, Int.reduceDiv, Int.reduceToNat, Nat.reduceAdd, Nat.reduceLeDiff, List.length_cons, List.length_nil, not_false_eq_true, not_true_eq_false, ne_eq, or_false, false_or, or_self, false_and, and_false, or_true, true_or, ite_self, Int.add_sub_cancel, Int.sub_add_cancel, b_lc1, b_lc2, b_lc3, b_lc4, b_lc5, up_eq, up_ei, up_n1, up_n2, W32i, W8i, W16i, W64i, if_ps, if_ng, and_tr, fil_n1, fil_in, fil_out, le_tt, le_ff, lt_tt, lt_ff, eq_tt, eq_ff]))
  · simp only [if_neg a] at im
    refine ⟨S, fun Q => ?_, xsc.rf S⟩
    rw [decide_eq_false (show ¬ pOut f n sc from fun x => a x.1), zb1_f]
    conv => lhs; rw [L247_4]
    clear a
    simp (disch := omega) only [bcd, true_and, and_true, and_self, if_true, if_false, ite_true, ite_false, reduceIte, Int.reduceEq, Int.reduceNe, Int.reduceLT, Int.reduceLE, Int.reduceAdd, Int.reduceSub, Int.reduceMul, Int.reduceNeg, Int.reduceMod, Int.reduceDiv, Int.reduceToNat, Nat.reduceAdd, Nat.reduceLeDiff, List.length_cons, List.length_nil, not_false_eq_true, not_true_eq_false, ne_eq, or_false, false_or, or_self, false_and, and_false, or_true, true_or, ite_self, Int.add_sub_cancel, Int.sub_add_cancel, b_lc1, b_lc2, b_lc3, b_lc4, b_lc5, up_eq, up_ei, up_n1, up_n2, W32i, W8i, W16i, W64i, if_ps, if_ng, and_tr, fil_n1, fil_in, fil_out, le_tt, le_ff, lt_tt, lt_ff, eq_tt, eq_ff, hl, mn, wt, im]
    iterate 14 (try (simp only [M247]; simp (disch := omega) only [bcd, true_and, and_true, and_self, if_true, if_false, ite_true, ite_false, reduceIte, Int.reduceEq, Int.reduceNe, Int.reduceLT, Int.reduceLE, Int.reduceAdd, Int.reduceSub, Int.reduceMul, Int.reduceNeg, Int.reduceMod, Int.reduceDiv, Int.reduceToNat, Nat.reduceAdd, Nat.reduceLeDiff, List.length_cons, List.length_nil, not_false_eq_true, not_true_eq_false, ne_eq, or_false, false_or, or_self, false_and, and_false, or_true, true_or, ite_self, Int.add_sub_cancel, Int.sub_add_cancel, b_lc1, b_lc2, b_lc3, b_lc4, b_lc5, up_eq, up_ei, up_n1, up_n2, W32i, W8i, W16i, W64i, if_ps, if_ng, and_tr, fil_n1, fil_in, fil_out, le_tt, le_ff, lt_tt, lt_ff, eq_tt, eq_ff]))
theorem x_areOuts {S : Sto} {f : F} (h : XD S f) {l sc : Int} (hl : S 113 2 = l) (l0 : 0 ≤ l) (l1 : l < fsize f) (h2 : nf f l = 2) (hs : S 33 2 = sc) (s0 : 0 ≤ sc ∧ sc ≤ 32) : ∃ S', zR 247 4 [(33, 33)] S S' (0, zb1 (zall (pOuts f l sc) (nc f l).toNat 0)) ∧ xsc S S' := by
  have sz := h.sz
  have cb := nc_b h.v sz l0 l1 h2
  have lp : ∀ (c i : Nat) (T : Sto) (y : AV), XD T f → T 113 2 = l → T 33 2 = sc → (i : Int) + c = nc f l → ∃ S', (∀ Q : ZQ, zG Cd 247 (Cd 247 4) [(33, 33), (0, 1), (0, (i : Int)), y] [] T Q = Q S' (0, zb1 (zall (pOuts f l sc) c i))) ∧ xsc T S' := by
    intro c
    induction c with
    | zero =>
      intro i T y hT hf hc hi
      have mn := fun Q => x_many hT l l0 l1 (by omega) Q
      refine ⟨T, fun Q => ?_, xsc.rf T⟩
      rw [L247_4, zall, zb1_t]
      simp (disch := omega) only [bcd, true_and, and_true, and_self, if_true, if_false, ite_true, ite_false, reduceIte, Int.reduceEq, Int.reduceNe, Int.reduceLT, Int.reduceLE, Int.reduceAdd, Int.reduceSub, Int.reduceMul, Int.reduceNeg, Int.reduceMod, Int.reduceDiv, Int.reduceToNat, Nat.reduceAdd, Nat.reduceLeDiff, List.length_cons, List.length_nil, not_false_eq_true, not_true_eq_false, ne_eq, or_false, false_or, or_self, false_and, and_false, or_true, true_or, ite_self, Int.add_sub_cancel, Int.sub_add_cancel, b_lc1, b_lc2, b_lc3, b_lc4, b_lc5, up_eq, up_ei, up_n1, up_n2, W32i, W8i, W16i, W64i, if_ps, if_ng, and_tr, fil_n1, fil_in, fil_out, le_tt, le_ff, lt_tt, lt_ff, eq_tt, eq_ff, M247, hf, mn]
    | succ c ih =>
      intro i T y hT hf hc hi
      obtain ⟨T1, r1, x1⟩ := x_out1 hT hf l0 l1 h2 hc s0 i (by omega) y
      have h1 := hT.sc x1
      have f1 : T1 113 2 = l := by rw [x1.2 _ (by decide)]; exact hf
      have c1 : T1 33 2 = sc := by rw [x1.1 _ (by decide) (by decide) (by decide)]; exact hc
      cases p : pOuts f l sc i with
      | true =>
        obtain ⟨S', r, x⟩ := ih (i + 1) T1 (0, wi f l i) h1 f1 c1 (by omega)
        refine ⟨S', fun Q => ?_, x1.tr x⟩
        have r := r Q
        rw [show ((i + 1 : Nat) : Int) = (i : Int) + 1 by omega] at r
        rw [r1, p, zb1_t, r, zall, p, Bool.true_and]
      | false =>
        refine ⟨T1, fun Q => ?_, x1⟩
        have mn := fun Q => x_many h1 l l0 l1 (by omega) Q
        rw [r1, p, zb1_f, zall, p, Bool.false_and, zb1_f, L247_4]
        by_cases z : nc f l ≤ (i : Int) + 1 <;> simp (disch := omega) only [bcd, true_and, and_true, and_self, if_true, if_false, ite_true, ite_false, reduceIte, Int.reduceEq, Int.reduceNe, Int.reduceLT, Int.reduceLE, Int.reduceAdd, Int.reduceSub, Int.reduceMul, Int.reduceNeg, Int.reduceMod, Int.reduceDiv, Int.reduceToNat, Nat.reduceAdd, Nat.reduceLeDiff, List.length_cons, List.length_nil, not_false_eq_true, not_true_eq_false, ne_eq, or_false, false_or, or_self, false_and, and_false, or_true, true_or, ite_self, Int.add_sub_cancel, Int.sub_add_cancel, b_lc1, b_lc2, b_lc3, b_lc4, b_lc5, up_eq, up_ei, up_n1, up_n2, W32i, W8i, W16i, W64i, if_ps, if_ng, and_tr, fil_n1, fil_in, fil_out, le_tt, le_ff, lt_tt, lt_ff, eq_tt, eq_ff, M247, f1, mn]
  obtain ⟨S', r, x⟩ := lp (nc f l).toNat 0 S (9, 0) h hl hs (by omega)
  refine ⟨S', fun Q => ?_, x⟩
  have r := r Q
  rw [show ((0 : Nat) : Int) = 0 by rfl] at r
  rw [← r]
  simp (disch := omega) only [bcd, true_and, and_true, and_self, if_true, if_false, ite_true, ite_false, reduceIte, Int.reduceEq, Int.reduceNe, Int.reduceLT, Int.reduceLE, Int.reduceAdd, Int.reduceSub, Int.reduceMul, Int.reduceNeg, Int.reduceMod, Int.reduceDiv, Int.reduceToNat, Nat.reduceAdd, Nat.reduceLeDiff, List.length_cons, List.length_nil, not_false_eq_true, not_true_eq_false, ne_eq, or_false, false_or, or_self, false_and, and_false, or_true, true_or, ite_self, Int.add_sub_cancel, Int.sub_add_cancel, b_lc1, b_lc2, b_lc3, b_lc4, b_lc5, up_eq, up_ei, up_n1, up_n2, W32i, W8i, W16i, W64i, if_ps, if_ng, and_tr, fil_n1, fil_in, fil_out, le_tt, le_ff, lt_tt, lt_ff, eq_tt, eq_ff, M247]
