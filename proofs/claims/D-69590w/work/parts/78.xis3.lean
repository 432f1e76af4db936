-- uses: 77
/-- what X.is leaves -/
def xsi (S S' : Sto) (f : F) (sc : Int) : Prop := (∀ i, i ≠ 4 → i ≠ 5 → i ≠ 6 → i ≠ 2 → S' 33 i = S 33 i) ∧ (∀ b, b ≠ 33 → b ≠ 113 → S' b = S b) ∧ (isTx f sc = true → SFl S' f sc)
theorem x_is44 {S : Sto} {f : F} {sc : Int} (h : XD S f) (g : SFl S f sc) (s0 : 0 ≤ sc ∧ sc ≤ 32) (hM : cM f 0 0 8) (f0 : 0 < fsize f) : ∃ S', (∀ Q : ZQ, zG Cd 237 (Cd 237 44) [(33, 33), (0, 0), (0, sc), (0, 8)] [] S Q = Q S' (0, if txA f ∧ txB f sc ∧ txC f sc ∧ txD f then 1 else 0)) ∧ xsc S S' := by
  have sz := h.sz
  have i0 := w0_in h.v hM f0 0 (by omega)
  have i1 := w0_in h.v hM f0 1 (by omega)
  have i2 := w0_in h.v hM f0 2 (by omega)
  have k0 : S 113 0 = w0 f 0 := g.fl 0 (by omega)
  have k1 : S 113 1 = w0 f 1 := g.fl 1 (by omega)
  have k2 : S 113 2 = w0 f 2 := g.fl 2 (by omega)
  have a1 := fun Q => x_isList h (w0 f 0) 1 8 (by omega) i0.2 Q
  have a3 := fun Q => x_isList h (w0 f 1) 0 4 (by omega) i1.2 Q
  have b1 := fun Q => x_isList h (w0 f 2) 0 8 (by omega) i2.2 Q
  by_cases A1 : cL f (w0 f 0) 1 8
  case neg =>
    refine ⟨S, fun Q => ?_, xsc.rf S⟩
    rw [if_neg (fun x => A1 x.1.1)]
    simp only [if_neg A1] at a1
    simp (disch := omega) only [bcd, true_and, and_true, and_self, if_true, if_false, ite_true, ite_false, reduceIte, Int.reduceEq, Int.reduceNe, Int.reduceLT, Int.reduceLE, Int.reduceAdd, Int.reduceSub, Int.reduceMul, Int.reduceNeg, Int.reduceMod, Int.reduceDiv, Int.reduceToNat, Nat.reduceAdd, Nat.reduceLeDiff, List.length_cons, List.length_nil, not_false_eq_true, not_true_eq_false, ne_eq, or_false, false_or, or_self, false_and, and_false, or_true, true_or, ite_self, Int.add_sub_cancel, Int.sub_add_cancel, b_lc1, b_lc2, b_lc3, b_lc4, b_lc5, up_eq, up_ei, up_n1, up_n2, W32i, W8i, W16i, W64i, if_ps, if_ng, and_tr, fil_n1, fil_in, fil_out, le_tt, le_ff, lt_tt, lt_ff, eq_tt, eq_ff, M237, k0, a1]
  simp only [if_pos A1] at a1
  have a2 := fun Q => x_areInputs h (w0 f 0) k0 (by omega) i0.2 A1.1 Q
  by_cases A2 : zall (pIn f (w0 f 0)) (nc f (w0 f 0)).toNat 0 = true
  case neg =>
    refine ⟨S, fun Q => ?_, xsc.rf S⟩
    rw [if_neg (fun x => A2 x.1.2.1)]
    simp only [zb1_0 A2] at a2
    simp (disch := omega) only [bcd, true_and, and_true, and_self, if_true, if_false, ite_true, ite_false, reduceIte, Int.reduceEq, Int.reduceNe, Int.reduceLT, Int.reduceLE, Int.reduceAdd, Int.reduceSub, Int.reduceMul, Int.reduceNeg, Int.reduceMod, Int.reduceDiv, Int.reduceToNat, Nat.reduceAdd, Nat.reduceLeDiff, List.length_cons, List.length_nil, not_false_eq_true, not_true_eq_false, ne_eq, or_false, false_or, or_self, false_and, and_false, or_true, true_or, ite_self, Int.add_sub_cancel, Int.sub_add_cancel, b_lc1, b_lc2, b_lc3, b_lc4, b_lc5, up_eq, up_ei, up_n1, up_n2, W32i, W8i, W16i, W64i, if_ps, if_ng, and_tr, fil_n1, fil_in, fil_out, le_tt, le_ff, lt_tt, lt_ff, eq_tt, eq_ff, M237, k0, a1, a2]
  simp only [zb1_1 A2] at a2
  by_cases A3 : cL f (w0 f 1) 0 4
  case neg =>
    refine ⟨S, fun Q => ?_, xsc.rf S⟩
    rw [if_neg (fun x => A3 x.1.2.2.1)]
    simp only [if_neg A3] at a3
    simp (disch := omega) only [bcd, true_and, and_true, and_self, if_true, if_false, ite_true, ite_false, reduceIte, Int.reduceEq, Int.reduceNe, Int.reduceLT, Int.reduceLE, Int.reduceAdd, Int.reduceSub, Int.reduceMul, Int.reduceNeg, Int.reduceMod, Int.reduceDiv, Int.reduceToNat, Nat.reduceAdd, Nat.reduceLeDiff, List.length_cons, List.length_nil, not_false_eq_true, not_true_eq_false, ne_eq, or_false, false_or, or_self, false_and, and_false, or_true, true_or, ite_self, Int.add_sub_cancel, Int.sub_add_cancel, b_lc1, b_lc2, b_lc3, b_lc4, b_lc5, up_eq, up_ei, up_n1, up_n2, W32i, W8i, W16i, W64i, if_ps, if_ng, and_tr, fil_n1, fil_in, fil_out, le_tt, le_ff, lt_tt, lt_ff, eq_tt, eq_ff, M237, k0, k1, a1, a2, a3]
  simp only [if_pos A3] at a3
  have a4 := fun Q => x_areInts h (w0 f 1) (-9223372036854775808) 9223372036854775807 (by omega) i1.2 A3.1 Q
  by_cases A4 : aLong f (w0 f 1) = true
  case neg =>
    refine ⟨S, fun Q => ?_, xsc.rf S⟩
    rw [if_neg (fun x => A4 x.1.2.2.2)]
    simp only [zb1_0 A4] at a4
    simp (disch := omega) only [bcd, true_and, and_true, and_self, if_true, if_false, ite_true, ite_false, reduceIte, Int.reduceEq, Int.reduceNe, Int.reduceLT, Int.reduceLE, Int.reduceAdd, Int.reduceSub, Int.reduceMul, Int.reduceNeg, Int.reduceMod, Int.reduceDiv, Int.reduceToNat, Nat.reduceAdd, Nat.reduceLeDiff, List.length_cons, List.length_nil, not_false_eq_true, not_true_eq_false, ne_eq, or_false, false_or, or_self, false_and, and_false, or_true, true_or, ite_self, Int.add_sub_cancel, Int.sub_add_cancel, b_lc1, b_lc2, b_lc3, b_lc4, b_lc5, up_eq, up_ei, up_n1, up_n2, W32i, W8i, W16i, W64i, if_ps, if_ng, and_tr, fil_n1, fil_in, fil_out, le_tt, le_ff, lt_tt, lt_ff, eq_tt, eq_ff, M237, k0, k1, a1, a2, a3, a4]
  simp only [zb1_1 A4] at a4
  by_cases B1 : cL f (w0 f 2) 0 8
  case neg =>
    refine ⟨S, fun Q => ?_, xsc.rf S⟩
    rw [if_neg (fun x => B1 x.2.1.1)]
    simp only [if_neg B1] at b1
    simp (disch := omega) only [bcd, true_and, and_true, and_self, if_true, if_false, ite_true, ite_false, reduceIte, Int.reduceEq, Int.reduceNe, Int.reduceLT, Int.reduceLE, Int.reduceAdd, Int.reduceSub, Int.reduceMul, Int.reduceNeg, Int.reduceMod, Int.reduceDiv, Int.reduceToNat, Nat.reduceAdd, Nat.reduceLeDiff, List.length_cons, List.length_nil, not_false_eq_true, not_true_eq_false, ne_eq, or_false, false_or, or_self, false_and, and_false, or_true, true_or, ite_self, Int.add_sub_cancel, Int.sub_add_cancel, b_lc1, b_lc2, b_lc3, b_lc4, b_lc5, up_eq, up_ei, up_n1, up_n2, W32i, W8i, W16i, W64i, if_ps, if_ng, and_tr, fil_n1, fil_in, fil_out, le_tt, le_ff, lt_tt, lt_ff, eq_tt, eq_ff, M237, k0, k1, k2, a1, a2, a3, a4, b1]
  simp only [if_pos B1] at b1
  obtain ⟨S1, xo, e1⟩ := x_areOuts h k2 (by omega) i2.2 B1.1 g.sc0 s0
  unfold zR at xo
  by_cases B2 : zall (pOuts f (w0 f 2) sc) (nc f (w0 f 2)).toNat 0 = true
  case neg =>
    refine ⟨S1, fun Q => ?_, e1⟩
    rw [if_neg (fun x => B2 x.2.1.2)]
    simp only [zb1_0 B2] at xo
    simp (disch := omega) only [bcd, true_and, and_true, and_self, if_true, if_false, ite_true, ite_false, reduceIte, Int.reduceEq, Int.reduceNe, Int.reduceLT, Int.reduceLE, Int.reduceAdd, Int.reduceSub, Int.reduceMul, Int.reduceNeg, Int.reduceMod, Int.reduceDiv, Int.reduceToNat, Nat.reduceAdd, Nat.reduceLeDiff, List.length_cons, List.length_nil, not_false_eq_true, not_true_eq_false, ne_eq, or_false, false_or, or_self, false_and, and_false, or_true, true_or, ite_self, Int.add_sub_cancel, Int.sub_add_cancel, b_lc1, b_lc2, b_lc3, b_lc4, b_lc5, up_eq, up_ei, up_n1, up_n2, W32i, W8i, W16i, W64i, if_ps, if_ng, and_tr, fil_n1, fil_in, fil_out, le_tt, le_ff, lt_tt, lt_ff, eq_tt, eq_ff, M237, k0, k1, k2, a1, a2, a3, a4, b1, xo]
  simp only [zb1_1 B2] at xo
  obtain ⟨S', r, e⟩ := x_is3 h g s0 hM f0 ⟨A1, A2, A3, A4⟩ S1 ⟨B1, B2⟩ xo e1
  refine ⟨S', fun Q => ?_, e⟩
  rw [r]
  by_cases q : txC f sc ∧ txD f
  · rw [if_pos q, if_pos ⟨⟨A1, A2, A3, A4⟩, ⟨B1, B2⟩, q⟩]
  · rw [if_neg q, if_neg (fun x => q x.2.2)]
theorem XD.fil {S : Sto} {f : F} (h : XD S f) (sc : Int) (g : Int → Int) : XD (fil (up S 33 2 sc) 113 0 8 g) f := by
  obtain ⟨h_v, h_sz, h_kd, h_va, h_nu, h_ss⟩ := h
  apply XD.mk1 <;> first | assumption | (simp (disch := omega) only [true_and, and_true, and_self, if_true, if_false, ite_true, ite_false, reduceIte, Int.reduceEq, Int.reduceNe, Int.reduceLT, Int.reduceLE, Int.reduceAdd, Int.reduceSub, Int.reduceMul, Int.reduceNeg, Int.reduceMod, Int.reduceDiv, Int.reduceToNat, Nat.reduceAdd, Nat.reduceLeDiff, List.length_cons, List.length_nil, not_false_eq_true, not_true_eq_false, ne_eq, or_false, false_or, or_self, false_and, and_false, or_true, true_or, ite_self, Int.add_sub_cancel, Int.sub_add_cancel, b_lc1, b_lc2, b_lc3, b_lc4, b_lc5, up_eq, up_ei, up_n1, up_n2, W32i, W8i, W16i, W64i, if_ps, if_ng, and_tr, fil_n1, fil_in, fil_out]; assumption)
theorem x_is {S : Sto} {f : F} {sc : Int} (h : XD S f) (s0 : 0 ≤ sc ∧ sc ≤ 32) (f0 : 0 < fsize f) : ∃ S', zR 237 4 [(33, 33), (0, 0), (0, sc)] S S' (0, zb1 (isTx f sc)) ∧ xsi S S' f sc := by
  have hX : XD (up S 33 2 sc) f := by
    obtain ⟨h_v, h_sz, h_kd, h_va, h_nu, h_ss⟩ := h
    apply XD.mk1 <;> first | assumption | (simp (disch := omega) only [true_and, and_true, and_self, if_true, if_false, ite_true, ite_false, reduceIte, Int.reduceEq, Int.reduceNe, Int.reduceLT, Int.reduceLE, Int.reduceAdd, Int.reduceSub, Int.reduceMul, Int.reduceNeg, Int.reduceMod, Int.reduceDiv, Int.reduceToNat, Nat.reduceAdd, Nat.reduceLeDiff, List.length_cons, List.length_nil, not_false_eq_true, not_true_eq_false, ne_eq, or_false, false_or, or_self, false_and, and_false, or_true, true_or, ite_self, Int.add_sub_cancel, Int.sub_add_cancel, b_lc1, b_lc2, b_lc3, b_lc4, b_lc5, up_eq, up_ei, up_n1, up_n2, W32i, W8i, W16i, W64i, if_ps, if_ng, and_tr, fil_n1, fil_in, fil_out]; assumption)
  have im := fun Q => x_isMade hX 0 0 8 (by omega) f0 Q
  by_cases hM : cM f 0 0 8
  case neg =>
    refine ⟨up S 33 2 sc, fun Q => ?_, ?_, ?_, fun x => absurd (of_decide_eq_true x).1 hM⟩
    · rw [show isTx f sc = false from decide_eq_false (fun x => hM x.1), zb1_f]
      simp only [if_neg hM] at im
      simp (disch := omega) only [bcd, true_and, and_true, and_self, if_true, if_false, ite_true, ite_false, reduceIte, Int.reduceEq, Int.reduceNe, Int.reduceLT, Int.reduceLE, Int.reduceAdd, Int.reduceSub, Int.reduceMul, Int.reduceNeg, Int.reduceMod, Int.reduceDiv, Int.reduceToNat, Nat.reduceAdd, Nat.reduceLeDiff, List.length_cons, List.length_nil, not_false_eq_true, not_true_eq_false, ne_eq, or_false, false_or, or_self, false_and, and_false, or_true, true_or, ite_self, Int.add_sub_cancel, Int.sub_add_cancel, b_lc1, b_lc2, b_lc3, b_lc4, b_lc5, up_eq, up_ei, up_n1, up_n2, W32i, W8i, W16i, W64i, if_ps, if_ng, and_tr, fil_n1, fil_in, fil_out, le_tt, le_ff, lt_tt, lt_ff, eq_tt, eq_ff, M237, im]
    · intro i h1 h2 h3 h4; simp (disch := omega) only [true_and, and_true, and_self, if_true, if_false, ite_true, ite_false, reduceIte, Int.reduceEq, Int.reduceNe, Int.reduceLT, Int.reduceLE, Int.reduceAdd, Int.reduceSub, Int.reduceMul, Int.reduceNeg, Int.reduceMod, Int.reduceDiv, Int.reduceToNat, Nat.reduceAdd, Nat.reduceLeDiff, List.length_cons, List.length_nil, not_false_eq_true, not_true_eq_false, ne_eq, or_false, false_or, or_self, false_and, and_false, or_true, true_or, ite_self, Int.add_sub_cancel, Int.sub_add_cancel, b_lc1, b_lc2, b_lc3, b_lc4, b_lc5, up_eq, up_ei, up_n1, up_n2, W32i, W8i, W16i, W64i, if_ps, if_ng, and_tr, fil_n1, fil_in, fil_out]
    · intro b h1 h2; simp (disch := omega) only [true_and, and_true, and_self, if_true, if_false, ite_true, ite_false, reduceIte, Int.reduceEq, Int.reduceNe, Int.reduceLT, Int.reduceLE, Int.reduceAdd, Int.reduceSub, Int.reduceMul, Int.reduceNeg, Int.reduceMod, Int.reduceDiv, Int.reduceToNat, Nat.reduceAdd, Nat.reduceLeDiff, List.length_cons, List.length_nil, not_false_eq_true, not_true_eq_false, ne_eq, or_false, false_or, or_self, false_and, and_false, or_true, true_or, ite_self, Int.add_sub_cancel, Int.sub_add_cancel, b_lc1, b_lc2, b_lc3, b_lc4, b_lc5, up_eq, up_ei, up_n1, up_n2, W32i, W8i, W16i, W64i, if_ps, if_ng, and_tr, fil_n1, fil_in, fil_out, up_fn]
  simp only [if_pos hM] at im
  have G : SFl (fil (up S 33 2 sc) 113 0 8 (fun i => wi f 0 i.toNat)) f sc := by
    apply SFl.mk1
    case sc0 => simp (disch := omega) only [true_and, and_true, and_self, if_true, if_false, ite_true, ite_false, reduceIte, Int.reduceEq, Int.reduceNe, Int.reduceLT, Int.reduceLE, Int.reduceAdd, Int.reduceSub, Int.reduceMul, Int.reduceNeg, Int.reduceMod, Int.reduceDiv, Int.reduceToNat, Nat.reduceAdd, Nat.reduceLeDiff, List.length_cons, List.length_nil, not_false_eq_true, not_true_eq_false, ne_eq, or_false, false_or, or_self, false_and, and_false, or_true, true_or, ite_self, Int.add_sub_cancel, Int.sub_add_cancel, b_lc1, b_lc2, b_lc3, b_lc4, b_lc5, up_eq, up_ei, up_n1, up_n2, W32i, W8i, W16i, W64i, if_ps, if_ng, and_tr, fil_n1, fil_in, fil_out]
    case fl => intro j hj; simp (disch := omega) only [true_and, and_true, and_self, if_true, if_false, ite_true, ite_false, reduceIte, Int.reduceEq, Int.reduceNe, Int.reduceLT, Int.reduceLE, Int.reduceAdd, Int.reduceSub, Int.reduceMul, Int.reduceNeg, Int.reduceMod, Int.reduceDiv, Int.reduceToNat, Nat.reduceAdd, Nat.reduceLeDiff, List.length_cons, List.length_nil, not_false_eq_true, not_true_eq_false, ne_eq, or_false, false_or, or_self, false_and, and_false, or_true, true_or, ite_self, Int.add_sub_cancel, Int.sub_add_cancel, b_lc1, b_lc2, b_lc3, b_lc4, b_lc5, up_eq, up_ei, up_n1, up_n2, W32i, W8i, W16i, W64i, if_ps, if_ng, and_tr, fil_n1, fil_in, fil_out]; rfl
  obtain ⟨S', r, e⟩ := x_is44 (h.fil sc (fun i => wi f 0 i.toNat)) G s0 hM f0
  refine ⟨S', fun Q => ?_, ?_, ?_, fun _ => G.sc e⟩
  · have fl := x_flds sc hM h.v h.sz f0 Q 8 0 (up S 33 2 sc) hX (by omega) (by omega)
    have st : zCall Cd 237 4 [(33, 33), (0, 0), (0, sc)] S Q = zG Cd 237 (Cd 237 20) [(33, 33), (0, 0), (0, sc), (0, 0)] [] (up S 33 2 sc) Q := by simp (disch := omega) only [bcd, true_and, and_true, and_self, if_true, if_false, ite_true, ite_false, reduceIte, Int.reduceEq, Int.reduceNe, Int.reduceLT, Int.reduceLE, Int.reduceAdd, Int.reduceSub, Int.reduceMul, Int.reduceNeg, Int.reduceMod, Int.reduceDiv, Int.reduceToNat, Nat.reduceAdd, Nat.reduceLeDiff, List.length_cons, List.length_nil, not_false_eq_true, not_true_eq_false, ne_eq, or_false, false_or, or_self, false_and, and_false, or_true, true_or, ite_self, Int.add_sub_cancel, Int.sub_add_cancel, b_lc1, b_lc2, b_lc3, b_lc4, b_lc5, up_eq, up_ei, up_n1, up_n2, W32i, W8i, W16i, W64i, if_ps, if_ng, and_tr, fil_n1, fil_in, fil_out, le_tt, le_ff, lt_tt, lt_ff, eq_tt, eq_ff, M237, im]
    rw [st, fl, L237_20]
    have st2 : ∀ T, zG Cd 237 (Cd 237 44) [(33, 33), (0, 0), (0, sc), (0, 8)] [] T Q = zG Cd 237 (Cd 237 44) [(33, 33), (0, 0), (0, sc), (0, 8)] [] T Q := fun _ => rfl
    have r := r Q
    obtain ⟨R, hR⟩ : ∃ R, zG Cd 237 (Cd 237 44) [(33, 33), (0, 0), (0, sc), (0, 8)] [] (fil (up S 33 2 sc) 113 0 8 (fun i => wi f 0 i.toNat)) Q = R := ⟨_, rfl⟩
    rw [hR] at r
    simp (disch := omega) only [bcd, true_and, and_true, and_self, if_true, if_false, ite_true, ite_false, reduceIte, Int.reduceEq, Int.reduceNe, Int.reduceLT, Int.reduceLE, Int.reduceAdd, Int.reduceSub, Int.reduceMul, Int.reduceNeg, Int.reduceMod, Int.reduceDiv, Int.reduceToNat, Nat.reduceAdd, Nat.reduceLeDiff, List.length_cons, List.length_nil, not_false_eq_true, not_true_eq_false, ne_eq, or_false, false_or, or_self, false_and, and_false, or_true, true_or, ite_self, Int.add_sub_cancel, Int.sub_add_cancel, b_lc1, b_lc2, b_lc3, b_lc4, b_lc5, up_eq, up_ei, up_n1, up_n2, W32i, W8i, W16i, W64i, if_ps, if_ng, and_tr, fil_n1, fil_in, fil_out, le_tt, le_ff, lt_tt, lt_ff, eq_tt, eq_ff, hR]
    rw [r]
    congr 2
    by_cases q : txA f ∧ txB f sc ∧ txC f sc ∧ txD f
    · rw [if_pos q, show isTx f sc = true from decide_eq_true ⟨hM, q⟩, zb1_t]
    · rw [if_neg q, show isTx f sc = false from decide_eq_false (fun x => q x.2), zb1_f]
  · intro i h1 h2 h3 h4
    rw [e.1 i h1 h2 h3]; simp (disch := omega) only [true_and, and_true, and_self, if_true, if_false, ite_true, ite_false, reduceIte, Int.reduceEq, Int.reduceNe, Int.reduceLT, Int.reduceLE, Int.reduceAdd, Int.reduceSub, Int.reduceMul, Int.reduceNeg, Int.reduceMod, Int.reduceDiv, Int.reduceToNat, Nat.reduceAdd, Nat.reduceLeDiff, List.length_cons, List.length_nil, not_false_eq_true, not_true_eq_false, ne_eq, or_false, false_or, or_self, false_and, and_false, or_true, true_or, ite_self, Int.add_sub_cancel, Int.sub_add_cancel, b_lc1, b_lc2, b_lc3, b_lc4, b_lc5, up_eq, up_ei, up_n1, up_n2, W32i, W8i, W16i, W64i, if_ps, if_ng, and_tr, fil_n1, fil_in, fil_out]
  · intro b h1 h2
    rw [e.2 b h1]; simp (disch := omega) only [true_and, and_true, and_self, if_true, if_false, ite_true, ite_false, reduceIte, Int.reduceEq, Int.reduceNe, Int.reduceLT, Int.reduceLE, Int.reduceAdd, Int.reduceSub, Int.reduceMul, Int.reduceNeg, Int.reduceMod, Int.reduceDiv, Int.reduceToNat, Nat.reduceAdd, Nat.reduceLeDiff, List.length_cons, List.length_nil, not_false_eq_true, not_true_eq_false, ne_eq, or_false, false_or, or_self, false_and, and_false, or_true, true_or, ite_self, Int.add_sub_cancel, Int.sub_add_cancel, b_lc1, b_lc2, b_lc3, b_lc4, b_lc5, up_eq, up_ei, up_n1, up_n2, W32i, W8i, W16i, W64i, if_ps, if_ng, and_tr, fil_n1, fil_in, fil_out, fil_fn, up_fn]
