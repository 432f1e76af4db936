-- uses: 76
/-! X: whether the data are a transaction -/
abbrev w0 (f : F) (i : Nat) : Int := wi f 0 i
abbrev aLong (f : F) (l : Int) : Bool := zall (pInt f l (-9223372036854775808) 9223372036854775807) (nc f l).toNat 0
abbrev txA (f : F) : Prop := cL f (w0 f 0) 1 8 ∧ zall (pIn f (w0 f 0)) (nc f (w0 f 0)).toNat 0 = true ∧ cL f (w0 f 1) 0 4 ∧ aLong f (w0 f 1) = true
abbrev txB (f : F) (sc : Int) : Prop := cL f (w0 f 2) 0 8 ∧ zall (pOuts f (w0 f 2) sc) (nc f (w0 f 2)).toNat 0 = true
abbrev txC (f : F) (sc : Int) : Prop := cI f (w0 f 3) 0 4611686018427387904 ∧ cL f (w0 f 4) 2 2 ∧ aLong f (w0 f 4) = true ∧ cL f (w0 f 5) 0 8 ∧ zall (pCos f (w0 f 5) 1 sc) (nc f (w0 f 5)).toNat 0 = true
abbrev txD (f : F) : Prop := nf f (w0 f 6) = 1 ∧ rdm f (w0 f 6) (w0 f 5) (nc f (w0 f 5)).toNat 0 0 0 = true ∧ cL f (w0 f 7) 0 8 ∧ zall (pInt f (w0 f 7) 0 255) (nc f (w0 f 7)).toNat 0 = true ∧ zall (pRis f (w0 f 7)) (nc f (w0 f 7) - 1).toNat 1 = true
def isTx (f : F) (sc : Int) : Bool := decide (cM f 0 0 8 ∧ txA f ∧ txB f sc ∧ txC f sc ∧ txD f)
theorem zb1_1 {b : Bool} (h : b = true) : zb1 b = 1 := by rw [h]; rfl
theorem zb1_0 {b : Bool} (h : ¬ b = true) : zb1 b = 0 := by cases b; rfl; exact absurd rfl h
theorem w0_in {f : F} (v : fval 1 f) (hM : cM f 0 0 8) (f0 : 0 < fsize f) (j : Nat) (hj : j < 8) : 0 < w0 f j ∧ w0 f j < fsize f := by
  have := wi_c v (by omega) f0 hM.1 hM.2.2 j (by omega)
  exact ⟨this.1, this.2.1⟩
def SFl (S : Sto) (f : F) (sc : Int) : Prop := (S 33 2 = sc) ∧ (∀ j : Nat, j < 8 → S 113 j = w0 f j)
theorem SFl.mk1 {S : Sto} {f : F} {sc : Int} (sc0 : S 33 2 = sc) (fl : ∀ j : Nat, j < 8 → S 113 j = w0 f j) : SFl S f sc := by unfold SFl; exact ⟨sc0, fl⟩
theorem SFl.sc0 {S : Sto} {f : F} {sc : Int} (h : SFl S f sc) : S 33 2 = sc := by unfold SFl at h; exact h.1
theorem SFl.fl {S : Sto} {f : F} {sc : Int} (h : SFl S f sc) : ∀ j : Nat, j < 8 → S 113 j = w0 f j := by unfold SFl at h; exact h.2
theorem SFl.sc {S S' : Sto} {f : F} {sc : Int} (h : SFl S f sc) (e : xsc S S') : SFl S' f sc := by
  apply SFl.mk1
  case sc0 => rw [e.1 _ (by decide) (by decide) (by decide)]; exact h.sc0
  case fl => intro j hj; rw [e.2 _ (by decide)]; exact h.fl j hj
/-- the part behind the outputs -/
theorem x_is3 {S : Sto} {f : F} {sc : Int} (h : XD S f) (g : SFl S f sc) (s0 : 0 ≤ sc ∧ sc ≤ 32) (hM : cM f 0 0 8) (f0 : 0 < fsize f) (A : txA f) (S1 : Sto) (B : txB f sc) (xo : ∀ Q : ZQ, zCall Cd 247 4 [(33, 33)] S Q = Q S1 (0, 1)) (e1 : xsc S S1) : ∃ S', (∀ Q : ZQ, zG Cd 237 (Cd 237 44) [(33, 33), (0, 0), (0, sc), (0, 8)] [] S Q = Q S' (0, if txC f sc ∧ txD f then 1 else 0)) ∧ xsc S S' := by
  have sz := h.sz
  obtain ⟨A1, A2, A3, A4⟩ := A
  obtain ⟨B1, B2⟩ := B
  have i0 := w0_in h.v hM f0 0 (by omega)
  have i1 := w0_in h.v hM f0 1 (by omega)
  have i2 := w0_in h.v hM f0 2 (by omega)
  have i3 := w0_in h.v hM f0 3 (by omega)
  have i4 := w0_in h.v hM f0 4 (by omega)
  have i5 := w0_in h.v hM f0 5 (by omega)
  have i6 := w0_in h.v hM f0 6 (by omega)
  have i7 := w0_in h.v hM f0 7 (by omega)
  have h1 := h.sc e1
  have g1 := g.sc e1
  have k0 : S 113 0 = w0 f 0 := g.fl 0 (by omega)
  have k1 : S 113 1 = w0 f 1 := g.fl 1 (by omega)
  have k2 : S 113 2 = w0 f 2 := g.fl 2 (by omega)
  have k3 : S1 113 3 = w0 f 3 := g1.fl 3 (by omega)
  have k4 : S1 113 4 = w0 f 4 := g1.fl 4 (by omega)
  have k5 : S1 113 5 = w0 f 5 := g1.fl 5 (by omega)
  have a1 := fun Q => x_isList h (w0 f 0) 1 8 (by omega) i0.2 Q
  simp only [if_pos A1] at a1
  have a2 := fun Q => x_areInputs h (w0 f 0) k0 (by omega) i0.2 A1.1 Q
  simp only [zb1_1 A2] at a2
  have a3 := fun Q => x_isList h (w0 f 1) 0 4 (by omega) i1.2 Q
  simp only [if_pos A3] at a3
  have a4 := fun Q => x_areInts h (w0 f 1) (-9223372036854775808) 9223372036854775807 (by omega) i1.2 A3.1 Q
  simp only [zb1_1 A4] at a4
  have b1 := fun Q => x_isList h (w0 f 2) 0 8 (by omega) i2.2 Q
  simp only [if_pos B1] at b1
  have c1 := fun Q => x_isWithin h1 (w0 f 3) 0 4611686018427387904 (by omega) i3.2 Q
  have c2 := fun Q => x_isList h1 (w0 f 4) 2 2 (by omega) i4.2 Q
  have c4 := fun Q => x_isList h1 (w0 f 5) 0 8 (by omega) i5.2 Q
  obtain ⟨R, hR⟩ : ∃ R : Prop, (txC f sc ∧ txD f) = R := ⟨_, rfl⟩
  by_cases C1 : cI f (w0 f 3) 0 4611686018427387904
  case neg =>
    refine ⟨S1, fun Q => ?_, e1⟩
    rw [if_neg (fun x => C1 x.1.1)]
    simp only [if_neg C1] at c1
    simp (disch := omega) only [bcd, true_and, and_true, and_self, if_true, if_false, ite_true, ite_false, reduceIte, Int.reduceEq, Int.reduceNe, Int.reduceLT, Int.reduceLE, Int.reduceAdd, Int.reduceSub, Int.reduceMul, Int.reduceNeg, Int.reduceMod, Int.reduceDiv, Int.reduceToNat, Nat.reduceAdd, Nat.reduceLeDiff, List.length_cons, List.length_nil, not_false_eq_true, not_true_eq_false, ne_eq, or_false, false_or, or_self, false_and, and_false, or_true, true_or, ite_self, Int.add_sub_cancel, Int.sub_add_cancel, b_lc1, b_lc2, b_lc3, b_lc4, b_lc5, up_eq, up_ei, up_n1, up_n2, W32i, W8i, W16i, W64i, if_ps, if_ng, and_tr, fil_n1, fil_in, fil_out, le_tt, le_ff, lt_tt, lt_ff, eq_tt, eq_ff, M237, k0, k1, k2, k3, a1, a2, a3, a4, b1, xo, c1]
  simp only [if_pos C1] at c1
  by_cases C2 : cL f (w0 f 4) 2 2
  case neg =>
    refine ⟨S1, fun Q => ?_, e1⟩
    rw [if_neg (fun x => C2 x.1.2.1)]
    simp only [if_neg C2] at c2
    simp (disch := omega) only [bcd, true_and, and_true, and_self, if_true, if_false, ite_true, ite_false, reduceIte, Int.reduceEq, Int.reduceNe, Int.reduceLT, Int.reduceLE, Int.reduceAdd, Int.reduceSub, Int.reduceMul, Int.reduceNeg, Int.reduceMod, Int.reduceDiv, Int.reduceToNat, Nat.reduceAdd, Nat.reduceLeDiff, List.length_cons, List.length_nil, not_false_eq_true, not_true_eq_false, ne_eq, or_false, false_or, or_self, false_and, and_false, or_true, true_or, ite_self, Int.add_sub_cancel, Int.sub_add_cancel, b_lc1, b_lc2, b_lc3, b_lc4, b_lc5, up_eq, up_ei, up_n1, up_n2, W32i, W8i, W16i, W64i, if_ps, if_ng, and_tr, fil_n1, fil_in, fil_out, le_tt, le_ff, lt_tt, lt_ff, eq_tt, eq_ff, M237, k0, k1, k2, k3, k4, a1, a2, a3, a4, b1, xo, c1, c2]
  simp only [if_pos C2] at c2
  have c3 := fun Q => x_areInts h1 (w0 f 4) (-9223372036854775808) 9223372036854775807 (by omega) i4.2 C2.1 Q
  by_cases C3 : aLong f (w0 f 4) = true
  case neg =>
    refine ⟨S1, fun Q => ?_, e1⟩
    rw [if_neg (fun x => C3 x.1.2.2.1)]
    simp only [zb1_0 C3] at c3
    simp (disch := omega) only [bcd, true_and, and_true, and_self, if_true, if_false, ite_true, ite_false, reduceIte, Int.reduceEq, Int.reduceNe, Int.reduceLT, Int.reduceLE, Int.reduceAdd, Int.reduceSub, Int.reduceMul, Int.reduceNeg, Int.reduceMod, Int.reduceDiv, Int.reduceToNat, Nat.reduceAdd, Nat.reduceLeDiff, List.length_cons, List.length_nil, not_false_eq_true, not_true_eq_false, ne_eq, or_false, false_or, or_self, false_and, and_false, or_true, true_or, ite_self, Int.add_sub_cancel, Int.sub_add_cancel, b_lc1, b_lc2, b_lc3, b_lc4, b_lc5, up_eq, up_ei, up_n1, up_n2, W32i, W8i, W16i, W64i, if_ps, if_ng, and_tr, fil_n1, fil_in, fil_out, le_tt, le_ff, lt_tt, lt_ff, eq_tt, eq_ff, M237, k0, k1, k2, k3, k4, a1, a2, a3, a4, b1, xo, c1, c2, c3]
  simp only [zb1_1 C3] at c3
  by_cases C4 : cL f (w0 f 5) 0 8
  case neg =>
    refine ⟨S1, fun Q => ?_, e1⟩
    rw [if_neg (fun x => C4 x.1.2.2.2.1)]
    simp only [if_neg C4] at c4
    simp (disch := omega) only [bcd, true_and, and_true, and_self, if_true, if_false, ite_true, ite_false, reduceIte, Int.reduceEq, Int.reduceNe, Int.reduceLT, Int.reduceLE, Int.reduceAdd, Int.reduceSub, Int.reduceMul, Int.reduceNeg, Int.reduceMod, Int.reduceDiv, Int.reduceToNat, Nat.reduceAdd, Nat.reduceLeDiff, List.length_cons, List.length_nil, not_false_eq_true, not_true_eq_false, ne_eq, or_false, false_or, or_self, false_and, and_false, or_true, true_or, ite_self, Int.add_sub_cancel, Int.sub_add_cancel, b_lc1, b_lc2, b_lc3, b_lc4, b_lc5, up_eq, up_ei, up_n1, up_n2, W32i, W8i, W16i, W64i, if_ps, if_ng, and_tr, fil_n1, fil_in, fil_out, le_tt, le_ff, lt_tt, lt_ff, eq_tt, eq_ff, M237, k0, k1, k2, k3, k4, k5, a1, a2, a3, a4, b1, xo, c1, c2, c3, c4]
  simp only [if_pos C4] at c4
  obtain ⟨S2, c5, e2⟩ := x_areCoins h1 (l := w0 f 5) (m := 1) (by omega) i5.2 C4.1 g1.sc0 (Or.inr rfl)
  unfold zR at c5
  by_cases C5 : zall (pCos f (w0 f 5) 1 sc) (nc f (w0 f 5)).toNat 0 = true
  case neg =>
    refine ⟨S2, fun Q => ?_, e1.tr e2⟩
    rw [if_neg (fun x => C5 x.1.2.2.2.2)]
    simp only [zb1_0 C5] at c5
    simp (disch := omega) only [bcd, true_and, and_true, and_self, if_true, if_false, ite_true, ite_false, reduceIte, Int.reduceEq, Int.reduceNe, Int.reduceLT, Int.reduceLE, Int.reduceAdd, Int.reduceSub, Int.reduceMul, Int.reduceNeg, Int.reduceMod, Int.reduceDiv, Int.reduceToNat, Nat.reduceAdd, Nat.reduceLeDiff, List.length_cons, List.length_nil, not_false_eq_true, not_true_eq_false, ne_eq, or_false, false_or, or_self, false_and, and_false, or_true, true_or, ite_self, Int.add_sub_cancel, Int.sub_add_cancel, b_lc1, b_lc2, b_lc3, b_lc4, b_lc5, up_eq, up_ei, up_n1, up_n2, W32i, W8i, W16i, W64i, if_ps, if_ng, and_tr, fil_n1, fil_in, fil_out, le_tt, le_ff, lt_tt, lt_ff, eq_tt, eq_ff, M237, k0, k1, k2, k3, k4, k5, a1, a2, a3, a4, b1, xo, c1, c2, c3, c4, c5]
  simp only [zb1_1 C5] at c5
  have h2 := h1.sc e2
  have g2 := g1.sc e2
  have hp : ∀ i : Nat, (i : Int) < nc f (w0 f 5) → pA f (wi f (w0 f 5) i) 1 sc := by
    intro i hi
    have := (zall_iff _ _ _).mp C5 i (by omega) (by omega)
    exact (of_decide_eq_true this).1
  obtain ⟨S3, d1, e3⟩ := x_areRed h2 (g2.fl 6 (by omega)) (g2.fl 5 (by omega)) (by omega) i6.2 (by omega) i5.2 C4.1 hp
  unfold zR at d1
  by_cases D1 : nf f (w0 f 6) = 1 ∧ rdm f (w0 f 6) (w0 f 5) (nc f (w0 f 5)).toNat 0 0 0 = true
  case neg =>
    refine ⟨S3, fun Q => ?_, (e1.tr e2).tr e3⟩
    rw [if_neg (fun x => D1 ⟨x.2.1, x.2.2.1⟩)]
    have d1 : ∀ Q : ZQ, zCall Cd 252 9 [(33, 33)] S2 Q = Q S3 (0, 0) := by
      intro Q
      rw [d1]
      by_cases q : nf f (w0 f 6) = 1
      · rw [if_pos q, zb1_0 (fun x => D1 ⟨q, x⟩)]
      · rw [if_neg q]
    simp (disch := omega) only [bcd, true_and, and_true, and_self, if_true, if_false, ite_true, ite_false, reduceIte, Int.reduceEq, Int.reduceNe, Int.reduceLT, Int.reduceLE, Int.reduceAdd, Int.reduceSub, Int.reduceMul, Int.reduceNeg, Int.reduceMod, Int.reduceDiv, Int.reduceToNat, Nat.reduceAdd, Nat.reduceLeDiff, List.length_cons, List.length_nil, not_false_eq_true, not_true_eq_false, ne_eq, or_false, false_or, or_self, false_and, and_false, or_true, true_or, ite_self, Int.add_sub_cancel, Int.sub_add_cancel, b_lc1, b_lc2, b_lc3, b_lc4, b_lc5, up_eq, up_ei, up_n1, up_n2, W32i, W8i, W16i, W64i, if_ps, if_ng, and_tr, fil_n1, fil_in, fil_out, le_tt, le_ff, lt_tt, lt_ff, eq_tt, eq_ff, M237, k0, k1, k2, k3, k4, k5, a1, a2, a3, a4, b1, xo, c1, c2, c3, c4, c5, d1]
  obtain ⟨D1, D2⟩ := D1
  simp only [if_pos D1, zb1_1 D2] at d1
  have h3 := h2.sc e3
  have g3 := g2.sc e3
  have k7 : S3 113 7 = w0 f 7 := g3.fl 7 (by omega)
  have d3 := fun Q => x_isList h3 (w0 f 7) 0 8 (by omega) i7.2 Q
  refine ⟨S3, fun Q => ?_, (e1.tr e2).tr e3⟩
  by_cases D3 : cL f (w0 f 7) 0 8
  case neg =>
    rw [if_neg (fun x => D3 x.2.2.2.1)]
    simp only [if_neg D3] at d3
    simp (disch := omega) only [bcd, true_and, and_true, and_self, if_true, if_false, ite_true, ite_false, reduceIte, Int.reduceEq, Int.reduceNe, Int.reduceLT, Int.reduceLE, Int.reduceAdd, Int.reduceSub, Int.reduceMul, Int.reduceNeg, Int.reduceMod, Int.reduceDiv, Int.reduceToNat, Nat.reduceAdd, Nat.reduceLeDiff, List.length_cons, List.length_nil, not_false_eq_true, not_true_eq_false, ne_eq, or_false, false_or, or_self, false_and, and_false, or_true, true_or, ite_self, Int.add_sub_cancel, Int.sub_add_cancel, b_lc1, b_lc2, b_lc3, b_lc4, b_lc5, up_eq, up_ei, up_n1, up_n2, W32i, W8i, W16i, W64i, if_ps, if_ng, and_tr, fil_n1, fil_in, fil_out, le_tt, le_ff, lt_tt, lt_ff, eq_tt, eq_ff, M237, k0, k1, k2, k3, k4, k5, k7, a1, a2, a3, a4, b1, xo, c1, c2, c3, c4, c5, d1, d3]
  simp only [if_pos D3] at d3
  have d4 := fun Q => x_areInts h3 (w0 f 7) 0 255 (by omega) i7.2 D3.1 Q
  by_cases D4 : zall (pInt f (w0 f 7) 0 255) (nc f (w0 f 7)).toNat 0 = true
  case neg =>
    rw [if_neg (fun x => D4 x.2.2.2.2.1)]
    simp only [zb1_0 D4] at d4
    simp (disch := omega) only [bcd, true_and, and_true, and_self, if_true, if_false, ite_true, ite_false, reduceIte, Int.reduceEq, Int.reduceNe, Int.reduceLT, Int.reduceLE, Int.reduceAdd, Int.reduceSub, Int.reduceMul, Int.reduceNeg, Int.reduceMod, Int.reduceDiv, Int.reduceToNat, Nat.reduceAdd, Nat.reduceLeDiff, List.length_cons, List.length_nil, not_false_eq_true, not_true_eq_false, ne_eq, or_false, false_or, or_self, false_and, and_false, or_true, true_or, ite_self, Int.add_sub_cancel, Int.sub_add_cancel, b_lc1, b_lc2, b_lc3, b_lc4, b_lc5, up_eq, up_ei, up_n1, up_n2, W32i, W8i, W16i, W64i, if_ps, if_ng, and_tr, fil_n1, fil_in, fil_out, le_tt, le_ff, lt_tt, lt_ff, eq_tt, eq_ff, M237, k0, k1, k2, k3, k4, k5, k7, a1, a2, a3, a4, b1, xo, c1, c2, c3, c4, c5, d1, d3, d4]
  simp only [zb1_1 D4] at d4
  have hi : ∀ j : Nat, (j : Int) < nc f (w0 f 7) → nf f (wi f (w0 f 7) j) = 3 := by
    intro i hi
    have := (zall_iff _ _ _).mp D4 i (by omega) (by omega)
    exact (of_decide_eq_true this).1
  have d5 := fun Q => x_areRis h3 (w0 f 7) (by omega) i7.2 D3.1 hi Q
  by_cases D5 : zall (pRis f (w0 f 7)) (nc f (w0 f 7) - 1).toNat 1 = true
  case neg =>
    rw [if_neg (fun x => D5 x.2.2.2.2.2)]
    simp only [zb1_0 D5] at d5
    simp (disch := omega) only [bcd, true_and, and_true, and_self, if_true, if_false, ite_true, ite_false, reduceIte, Int.reduceEq, Int.reduceNe, Int.reduceLT, Int.reduceLE, Int.reduceAdd, Int.reduceSub, Int.reduceMul, Int.reduceNeg, Int.reduceMod, Int.reduceDiv, Int.reduceToNat, Nat.reduceAdd, Nat.reduceLeDiff, List.length_cons, List.length_nil, not_false_eq_true, not_true_eq_false, ne_eq, or_false, false_or, or_self, false_and, and_false, or_true, true_or, ite_self, Int.add_sub_cancel, Int.sub_add_cancel, b_lc1, b_lc2, b_lc3, b_lc4, b_lc5, up_eq, up_ei, up_n1, up_n2, W32i, W8i, W16i, W64i, if_ps, if_ng, and_tr, fil_n1, fil_in, fil_out, le_tt, le_ff, lt_tt, lt_ff, eq_tt, eq_ff, M237, k0, k1, k2, k3, k4, k5, k7, a1, a2, a3, a4, b1, xo, c1, c2, c3, c4, c5, d1, d3, d4, d5]
  simp only [zb1_1 D5] at d5
  rw [if_pos ⟨⟨C1, C2, C3, C4, C5⟩, D1, D2, D3, D4, D5⟩]
  simp (disch := omega) only [bcd, true_and, and_true, and_self, if_true, if_false, ite_true, ite_false, reduceIte, Int.reduceEq, Int.reduceNe, Int.reduceLT, Int.reduceLE, Int.reduceAdd, Int.reduceSub, Int.reduceMul, Int.reduceNeg, Int.reduceMod, Int.reduceDiv, Int.reduceToNat, Nat.reduceAdd, Nat.reduceLeDiff, List.length_cons, List.length_nil, not_false_eq_true, not_true_eq_false, ne_eq, or_false, false_or, or_self, false_and, and_false, or_true, true_or, ite_self, Int.add_sub_cancel, Int.sub_add_cancel, b_lc1, b_lc2, b_lc3, b_lc4, b_lc5, up_eq, up_ei, up_n1, up_n2, W32i, W8i, W16i, W64i, if_ps, if_ng, and_tr, fil_n1, fil_in, fil_out, le_tt, le_ff, lt_tt, lt_ff, eq_tt, eq_ff, M237, k0, k1, k2, k3, k4, k5, k7, a1, a2, a3, a4, b1, xo, c1, c2, c3, c4, c5, d1, d3, d4, d5]
