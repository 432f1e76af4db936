-- uses: 73
def MH (S : Sto) (f : F) : Prop := (S 34 38 = fsize f) ∧ (∀ i, 0 ≤ i → i < fsize f → S 138 i = fhp f i) ∧ (S 34 47 = fhp f (fsize f))
theorem MH.mk1 {S : Sto} {f : F} (nd : S 34 38 = fsize f) (hd : ∀ i, 0 ≤ i → i < fsize f → S 138 i = fhp f i) (pp : S 34 47 = fhp f (fsize f)) : MH S f := by unfold MH; exact ⟨nd, hd, pp⟩
theorem MH.nd {S : Sto} {f : F} (h : MH S f) : S 34 38 = fsize f := by unfold MH at h; exact h.1
theorem MH.hd {S : Sto} {f : F} (h : MH S f) : ∀ i, 0 ≤ i → i < fsize f → S 138 i = fhp f i := by unfold MH at h; exact h.2.1
theorem MH.pp {S : Sto} {f : F} (h : MH S f) : S 34 47 = fhp f (fsize f) := by unfold MH at h; exact h.2.2
theorem m_endOf {S : Sto} {f : F} (h : MD S f) (g : MH S f) (n : Int) (n0 : 0 ≤ n) (n1 : n < fsize f) (Q : ZQ) : zCall Cd 292 2 [(34, 34), (0, n)] S Q = Q S (0, fhp f (n + ns f n)) := by
  have w := nW_of f 1 n h.v n0 n1
  have s1 := w.s1
  have s2 := w.s2
  have sz := h.sz
  have wh := h.wh n n0 n1
  have nd := g.nd
  by_cases q : n + ns f n < fsize f
  · have hd := g.hd (n + ns f n) (by omega) q
    simp (disch := omega) only [bcd, true_and, and_true, and_self, if_true, if_false, ite_true, ite_false, reduceIte, Int.reduceEq, Int.reduceNe, Int.reduceLT, Int.reduceLE, Int.reduceAdd, Int.reduceSub, Int.reduceMul, Int.reduceNeg, Int.reduceMod, Int.reduceDiv, Int.reduceToNat, Nat.reduceAdd, Nat.reduceLeDiff, List.length_cons, List.length_nil, not_false_eq_true, not_true_eq_false, ne_eq, or_false, false_or, or_self, false_and, and_false, or_true, true_or, ite_self, Int.add_sub_cancel, Int.sub_add_cancel, b_lc1, b_lc2, b_lc3, b_lc4, b_lc5, up_eq, up_ei, up_n1, up_n2, W32i, W8i, W16i, W64i, if_ps, if_ng, and_tr, fil_n1, fil_in, fil_out, le_tt, le_ff, lt_tt, lt_ff, eq_tt, eq_ff, M292, wh, nd, hd]
  · have e : n + ns f n = fsize f := by omega
    have pp := g.pp
    rw [e]
    simp (disch := omega) only [bcd, true_and, and_true, and_self, if_true, if_false, ite_true, ite_false, reduceIte, Int.reduceEq, Int.reduceNe, Int.reduceLT, Int.reduceLE, Int.reduceAdd, Int.reduceSub, Int.reduceMul, Int.reduceNeg, Int.reduceMod, Int.reduceDiv, Int.reduceToNat, Nat.reduceAdd, Nat.reduceLeDiff, List.length_cons, List.length_nil, not_false_eq_true, not_true_eq_false, ne_eq, or_false, false_or, or_self, false_and, and_false, or_true, true_or, ite_self, Int.add_sub_cancel, Int.sub_add_cancel, b_lc1, b_lc2, b_lc3, b_lc4, b_lc5, up_eq, up_ei, up_n1, up_n2, W32i, W8i, W16i, W64i, if_ps, if_ng, and_tr, fil_n1, fil_in, fil_out, le_tt, le_ff, lt_tt, lt_ff, eq_tt, eq_ff, M292, wh, nd, pp]
/-- an output of a transaction -/
abbrev pOut (f : F) (n sc : Int) : Prop := cM f n 0 3 ∧ pAd f (wi f n 0) sc ∧ cL f (wi f n 1) 1 8 ∧ zall (pCos f (wi f n 1) 0 sc) (nc f (wi f n 1)).toNat 0 = true ∧ fhp f (wi f n 2 + ns f (wi f n 2)) - fhp f (wi f n 2) ≤ 128
theorem wi_c {f : F} {n c : Int} (v : fval 1 f) (n0 : 0 ≤ n) (n1 : n < fsize f) (h0 : nf f n = 0) (hc : nc f n = c) (j : Nat) (hj : (j : Int) < c) : n < wi f n j ∧ wi f n j < fsize f ∧ nch f n = c := by
  have e : nch f n = c := by unfold nch; rw [if_neg (by omega), if_pos (by omega), hc]
  have w := wi_ok f 1 n v n0 n1 j (by omega)
  have s2 := (nW_of f 1 n v n0 n1).s2
  have := w.2.2.1 (by omega)
  exact ⟨by omega, by omega, e⟩
theorem m_isOut {S : Sto} {f : F} (h : MD S f) (g : MH S f) (n sc : Int) (hs : S 34 3 = sc) (s0 : 0 ≤ sc ∧ sc ≤ 32) (n0 : 0 ≤ n) (n1 : n < fsize f) (Q : ZQ) : zCall Cd 287 4 [(34, 34), (0, n)] S Q = Q S (0, if pOut f n sc then 1 else 0) := by
  have sz := h.sz
  have ic := fun Q => m_isCon h n 0 3 n0 n1 Q
  by_cases a : cM f n 0 3
  · simp only [if_pos a] at ic
    obtain ⟨a1, a2, a3⟩ := wi_c h.v n0 n1 a.1 a.2.2 0 (by decide)
    obtain ⟨b1, b2, b3⟩ := wi_c h.v n0 n1 a.1 a.2.2 1 (by decide)
    obtain ⟨c1, c2, c3⟩ := wi_c h.v n0 n1 a.1 a.2.2 2 (by decide)
    have w0 : wi f n 0 = n + 1 := rfl
    rw [w0] at a2
    have ia := fun Q => m_isAddr h (n + 1) sc hs s0 (by omega) a2 Q
    have wt1 := fun Q => m_within h n 1 n0 n1 (by omega) (by omega) Q
    have wt2 := fun Q => m_within h n 2 n0 n1 (by omega) (by omega) Q
    rw [show (1 : Int).toNat = 1 by rfl] at wt1
    rw [show (2 : Int).toNat = 2 by rfl] at wt2
    have co := fun Q => m_isCoins h (l := wi f n 1) (m := 0) (sc := sc) (by omega) b2 hs (Or.inl rfl) Q
    simp only [Int.reduceEq, if_false] at co
    have en := fun Q => m_endOf h g (wi f n 2) (by omega) c2 Q
    have hd := g.hd (wi f n 2) (by omega) c2
    have w2 := nW_of f 1 (wi f n 2) h.v (by omega) c2
    have w21 := w2.s1
    have w22 := w2.s2
    have bm := fhp_m h.v (n := 0) (by omega) (wi f n 2).toNat (by omega)
    have bn := fhp_m h.v (n := wi f n 2) (by omega) (ns f (wi f n 2)).toNat (by omega)
    rw [fhp_0, show (0 : Int) + ((wi f n 2).toNat : Int) = wi f n 2 by omega] at bm
    rw [show wi f n 2 + ((ns f (wi f n 2)).toNat : Int) = wi f n 2 + ns f (wi f n 2) by omega] at bn
    by_cases d1 : pAd f (n + 1) sc
    · simp only [if_pos d1] at ia
      by_cases d2 : cL f (wi f n 1) 1 8 ∧ zall (pCos f (wi f n 1) 0 sc) (nc f (wi f n 1)).toNat 0 = true
      · simp only [if_pos d2.1, d2.2, zb1_t] at co
        by_cases d3 : fhp f (wi f n 2 + ns f (wi f n 2)) - fhp f (wi f n 2) ≤ 128
        · rw [if_pos ⟨a, d1, d2.1, d2.2, d3⟩]
          clear a d1 d2
          iterate 14 (try (simp only [M287]; simp (disch := omega) only [bcd, true_and, and_true, and_self, if_true, if_false, ite_true, ite_false, reduceIte, Int.reduceEq, Int.reduceNe, Int.reduceLT, Int.reduceLE, Int.reduceAdd, Int.reduceSub, Int.reduceMul, Int.reduceNeg, Int.reduceMod, Int.reduceDiv, Int.reduceToNat, Nat.reduceAdd, Nat.reduceLeDiff, List.length_cons, List.length_nil, not_false_eq_true, not_true_eq_false, ne_eq, or_false, false_or, or_self, false_and, and_false, or_true, true_or, ite_self, Int.add_sub_cancel, Int.sub_add_cancel, b_lc1, b_lc2, b_lc3, b_lc4, b_lc5, up_eq, up_ei, up_n1, up_n2, W32i, W8i, W16i, W64i, if_ps, if_ng, and_tr, fil_n1, fil_in, fil_out, le_tt, le_ff, lt_tt, lt_ff, eq_tt, eq_ff, ic, ia, wt1, wt2, co, en, hd]))
        · rw [if_neg (fun x => d3 x.2.2.2.2)]
          clear a d1 d2
          iterate 14 (try (simp only [M287]; simp (disch := omega) only [bcd, true_and, and_true, and_self, if_true, if_false, ite_true, ite_false, reduceIte, Int.reduceEq, Int.reduceNe, Int.reduceLT, Int.reduceLE, Int.reduceAdd, Int.reduceSub, Int.reduceMul, Int.reduceNeg, Int.reduceMod, Int.reduceDiv, Int.reduceToNat, Nat.reduceAdd, Nat.reduceLeDiff, List.length_cons, List.length_nil, not_false_eq_true, not_true_eq_false, ne_eq, or_false, false_or, or_self, false_and, and_false, or_true, true_or, ite_self, Int.add_sub_cancel, Int.sub_add_cancel, b_lc1, b_lc2, b_lc3, b_lc4, b_lc5, up_eq, up_ei, up_n1, up_n2, W32i, W8i, W16i, W64i, if_ps, if_ng, and_tr, fil_n1, fil_in, fil_out, le_tt, le_ff, lt_tt, lt_ff, eq_tt, eq_ff, ic, ia, wt1, wt2, co, en, hd]))
      · rw [if_neg (fun x => d2 ⟨x.2.2.1, x.2.2.2.1⟩)]
        have co0 : ∀ Q : ZQ, zCall Cd 290 6 [(34, 34), (0, wi f n 1), (0, 0)] S Q = Q S (0, 0) := by
          intro Q
          rw [co]
          by_cases e1 : cL f (wi f n 1) 1 8
          · rw [if_pos e1]
            cases hz : zall (pCos f (wi f n 1) 0 sc) (nc f (wi f n 1)).toNat 0 with
            | false => rfl
            | true => exact absurd ⟨e1, hz⟩ d2
          · rw [if_neg e1]
        clear a d1 d2 co
        iterate 14 (try (simp only [M287]; simp (disch := omega) only [bcd, true_and, and_true, and_self, if_true, if_false, ite_true, ite_false, reduceIte, Int.reduceEq, Int.reduceNe, Int.reduceLT, Int.reduceLE, Int.reduceAdd, Int.reduceSub, Int.reduceMul, Int.reduceNeg, Int.reduceMod, Int.reduceDiv, Int.reduceToNat, Nat.reduceAdd, Nat.reduceLeDiff, List.length_cons, List.length_nil, not_false_eq_true, not_true_eq_false, ne_eq, or_false, false_or, or_self, false_and, and_false, or_true, true_or, ite_self, Int.add_sub_cancel, Int.sub_add_cancel, b_lc1, b_lc2, b_lc3, b_lc4, b_lc5, up_eq, up_ei, up_n1, up_n2, W32i, W8i, W16i, W64i, if_ps, if_ng, and_tr, fil_n1, fil_in, fil_out, le_tt, le_ff, lt_tt, lt_ff, eq_tt, eq_ff, ic, ia, wt1, wt2, co0, en, hd]))
    · simp only [if_neg d1] at ia
      rw [if_neg (fun x => d1 x.2.1)]
      clear a d1
      iterate 14 (try (simp only [M287]; simp (disch := omega) only [bcd, true_and, and_true, and_self, if_true, if_false, ite_true, ite_false, reduceIte, Int.reduceEq, Int.reduceNe, Int.reduceLT, Int.reduceLE, Int.reduceAdd, Int.reduceSub, Int.reduceMul, Int.reduceNeg, Int.reduceMod, Int.reduceDiv, Int.reduceToNat, Nat.reduceAdd, Nat.reduceLeDiff, List.length_cons, List.length_nil, not_false_eq_true, not_true_eq_false, ne_eq, or_false, false_or, or_self, false_and, and_false, or_true, true_or, ite_self, Int.add_sub_cancel, Int.sub_add_cancel, b_lc1, b_lc2, b_lc3, b_lc4, b_lc5, up_eq, up_ei, up_n1, up_n2, W32i, W8i, W16i, W64i, if_ps, if_ng, and_tr, fil_n1, fil_in, fil_out, le_tt, le_ff, lt_tt, lt_ff, eq_tt, eq_ff, ic, ia]))
  · simp only [if_neg a] at ic
    rw [if_neg (fun x => a x.1)]
    clear a
    iterate 14 (try (simp only [M287]; simp (disch := omega) only [bcd, true_and, and_true, and_self, if_true, if_false, ite_true, ite_false, reduceIte, Int.reduceEq, Int.reduceNe, Int.reduceLT, Int.reduceLE, Int.reduceAdd, Int.reduceSub, Int.reduceMul, Int.reduceNeg, Int.reduceMod, Int.reduceDiv, Int.reduceToNat, Nat.reduceAdd, Nat.reduceLeDiff, List.length_cons, List.length_nil, not_false_eq_true, not_true_eq_false, ne_eq, or_false, false_or, or_self, false_and, and_false, or_true, true_or, ite_self, Int.add_sub_cancel, Int.sub_add_cancel, b_lc1, b_lc2, b_lc3, b_lc4, b_lc5, up_eq, up_ei, up_n1, up_n2, W32i, W8i, W16i, W64i, if_ps, if_ng, and_tr, fil_n1, fil_in, fil_out, le_tt, le_ff, lt_tt, lt_ff, eq_tt, eq_ff, ic]))
