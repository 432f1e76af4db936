-- uses: 79
/-- the end of M's asking -/
theorem m_is255 {S : Sto} {f : F} {sc : Int} (h : MD S f) (g : MFl S f) (hs : S 34 3 = sc) (s0 : 0 ≤ sc ∧ sc ≤ 32) (hM : cM f 0 0 8) (f0 : 0 < fsize f) (k : Int) (y : AV) (Q : ZQ) : zG Cd 283 (Cd 283 255) [(34, 34), (0, 1), (0, k), y] [] S Q = Q S (0, if txC f sc ∧ txD f then 1 else 0) := by
  have sz := h.sz
  have i3 := w0_in h.v hM f0 3 (by omega)
  have i4 := w0_in h.v hM f0 4 (by omega)
  have i5 := w0_in h.v hM f0 5 (by omega)
  have i6 := w0_in h.v hM f0 6 (by omega)
  have i7 := w0_in h.v hM f0 7 (by omega)
  have k3 : S 142 3 = w0 f 3 := g.fl 3 (by omega)
  have k4 : S 142 4 = w0 f 4 := g.fl 4 (by omega)
  have k5 : S 142 5 = w0 f 5 := g.fl 5 (by omega)
  have k6 : S 142 6 = w0 f 6 := g.fl 6 (by omega)
  have k7 : S 142 7 = w0 f 7 := g.fl 7 (by omega)
  have c1 := fun Q => m_isInt h (w0 f 3) 0 4611686018427387904 (by omega) i3.2 Q
  have c2 := fun Q => m_isList h (w0 f 4) 2 2 (by omega) i4.2 Q
  have c4 := fun Q => m_isCoins h (l := w0 f 5) (m := 1) (by omega) i5.2 hs (Or.inr rfl) Q
  have d3 := fun Q => m_areSig h (l := w0 f 7) (by omega) i7.2 Q
  by_cases C1 : cI f (w0 f 3) 0 4611686018427387904
  case neg =>
    rw [if_neg (fun x => C1 x.1.1)]
    simp only [if_neg C1] at c1
    simp (disch := omega) only [bcd, true_and, and_true, and_self, if_true, if_false, ite_true, ite_false, reduceIte, Int.reduceEq, Int.reduceNe, Int.reduceLT, Int.reduceLE, Int.reduceAdd, Int.reduceSub, Int.reduceMul, Int.reduceNeg, Int.reduceMod, Int.reduceDiv, Int.reduceToNat, Nat.reduceAdd, Nat.reduceLeDiff, List.length_cons, List.length_nil, not_false_eq_true, not_true_eq_false, ne_eq, or_false, false_or, or_self, false_and, and_false, or_true, true_or, ite_self, Int.add_sub_cancel, Int.sub_add_cancel, b_lc1, b_lc2, b_lc3, b_lc4, b_lc5, up_eq, up_ei, up_n1, up_n2, W32i, W8i, W16i, W64i, if_ps, if_ng, and_tr, fil_n1, fil_in, fil_out, le_tt, le_ff, lt_tt, lt_ff, eq_tt, eq_ff, M283, k3, k4, c1]
  simp only [if_pos C1] at c1
  by_cases C2 : cL f (w0 f 4) 2 2
  case neg =>
    rw [if_neg (fun x => C2 x.1.2.1)]
    simp only [if_neg C2] at c2
    simp (disch := omega) only [bcd, true_and, and_true, and_self, if_true, if_false, ite_true, ite_false, reduceIte, Int.reduceEq, Int.reduceNe, Int.reduceLT, Int.reduceLE, Int.reduceAdd, Int.reduceSub, Int.reduceMul, Int.reduceNeg, Int.reduceMod, Int.reduceDiv, Int.reduceToNat, Nat.reduceAdd, Nat.reduceLeDiff, List.length_cons, List.length_nil, not_false_eq_true, not_true_eq_false, ne_eq, or_false, false_or, or_self, false_and, and_false, or_true, true_or, ite_self, Int.add_sub_cancel, Int.sub_add_cancel, b_lc1, b_lc2, b_lc3, b_lc4, b_lc5, up_eq, up_ei, up_n1, up_n2, W32i, W8i, W16i, W64i, if_ps, if_ng, and_tr, fil_n1, fil_in, fil_out, le_tt, le_ff, lt_tt, lt_ff, eq_tt, eq_ff, M283, k3, k4, c1, c2]
  simp only [if_pos C2] at c2
  obtain ⟨C2a, C2b, C2c⟩ := C2
  have nk := nk_in h.v (by omega) i4.2 (Or.inr C2a) rfl
  have wa := wi_l h.v (by omega) i4.2 C2a 1 (by omega)
  have fm1 := h.fm (w0 f 4 + 1) (by omega) (by omega)
  have fm2 := h.fm (wi f (w0 f 4) 1) (by omega) wa.2.1
  have wt := fun Q => m_within h (w0 f 4) 1 (by omega) i4.2 (by omega) (by omega) Q
  rw [show (1 : Int).toNat = 1 by rfl] at wt
  have n2 : (nc f (w0 f 4)).toNat = 2 := by omega
  have aL : aLong f (w0 f 4) = true ↔ nf f (w0 f 4 + 1) = 3 ∧ nf f (wi f (w0 f 4) 1) = 3 := by
    unfold aLong
    rw [n2, zall, zall, zall]
    unfold pInt
    simp only [Bool.and_true, Bool.and_eq_true, decide_eq_true_eq]
    rw [show 0 + 1 = 1 by rfl, show wi f (w0 f 4) 0 = w0 f 4 + 1 by rfl, cI_long h.v (by omega) (by omega), cI_long h.v (by omega) wa.2.1]
  by_cases C3 : nf f (w0 f 4 + 1) = 3
  case neg =>
    rw [if_neg (fun x => C3 (aL.mp x.1.2.2.1).1)]
    simp (disch := omega) only [bcd, true_and, and_true, and_self, if_true, if_false, ite_true, ite_false, reduceIte, Int.reduceEq, Int.reduceNe, Int.reduceLT, Int.reduceLE, Int.reduceAdd, Int.reduceSub, Int.reduceMul, Int.reduceNeg, Int.reduceMod, Int.reduceDiv, Int.reduceToNat, Nat.reduceAdd, Nat.reduceLeDiff, List.length_cons, List.length_nil, not_false_eq_true, not_true_eq_false, ne_eq, or_false, false_or, or_self, false_and, and_false, or_true, true_or, ite_self, Int.add_sub_cancel, Int.sub_add_cancel, b_lc1, b_lc2, b_lc3, b_lc4, b_lc5, up_eq, up_ei, up_n1, up_n2, W32i, W8i, W16i, W64i, if_ps, if_ng, and_tr, fil_n1, fil_in, fil_out, le_tt, le_ff, lt_tt, lt_ff, eq_tt, eq_ff, M283, k3, k4, c1, c2, fm1, C3]
  by_cases C3' : nf f (wi f (w0 f 4) 1) = 3
  case neg =>
    rw [if_neg (fun x => C3' (aL.mp x.1.2.2.1).2)]
    simp (disch := omega) only [bcd, true_and, and_true, and_self, if_true, if_false, ite_true, ite_false, reduceIte, Int.reduceEq, Int.reduceNe, Int.reduceLT, Int.reduceLE, Int.reduceAdd, Int.reduceSub, Int.reduceMul, Int.reduceNeg, Int.reduceMod, Int.reduceDiv, Int.reduceToNat, Nat.reduceAdd, Nat.reduceLeDiff, List.length_cons, List.length_nil, not_false_eq_true, not_true_eq_false, ne_eq, or_false, false_or, or_self, false_and, and_false, or_true, true_or, ite_self, Int.add_sub_cancel, Int.sub_add_cancel, b_lc1, b_lc2, b_lc3, b_lc4, b_lc5, up_eq, up_ei, up_n1, up_n2, W32i, W8i, W16i, W64i, if_ps, if_ng, and_tr, fil_n1, fil_in, fil_out, le_tt, le_ff, lt_tt, lt_ff, eq_tt, eq_ff, M283, k3, k4, c1, c2, fm1, C3, wt, fm2, C3']
  rw [if_pos rfl] at c4
  by_cases C4 : cL f (w0 f 5) 0 8 ∧ zall (pCos f (w0 f 5) 1 sc) (nc f (w0 f 5)).toNat 0 = true
  case neg =>
    rw [if_neg (fun x => C4 ⟨x.1.2.2.2.1, x.1.2.2.2.2⟩)]
    have c4 : ∀ Q : ZQ, zCall Cd 290 6 [(34, 34), (0, w0 f 5), (0, 1)] S Q = Q S (0, 0) := by
      intro Q
      rw [c4]
      by_cases q : cL f (w0 f 5) 0 8
      · rw [if_pos q, zb1_0 (fun x => C4 ⟨q, x⟩)]
      · rw [if_neg q]
    simp (disch := omega) only [bcd, true_and, and_true, and_self, if_true, if_false, ite_true, ite_false, reduceIte, Int.reduceEq, Int.reduceNe, Int.reduceLT, Int.reduceLE, Int.reduceAdd, Int.reduceSub, Int.reduceMul, Int.reduceNeg, Int.reduceMod, Int.reduceDiv, Int.reduceToNat, Nat.reduceAdd, Nat.reduceLeDiff, List.length_cons, List.length_nil, not_false_eq_true, not_true_eq_false, ne_eq, or_false, false_or, or_self, false_and, and_false, or_true, true_or, ite_self, Int.add_sub_cancel, Int.sub_add_cancel, b_lc1, b_lc2, b_lc3, b_lc4, b_lc5, up_eq, up_ei, up_n1, up_n2, W32i, W8i, W16i, W64i, if_ps, if_ng, and_tr, fil_n1, fil_in, fil_out, le_tt, le_ff, lt_tt, lt_ff, eq_tt, eq_ff, M283, k3, k4, k5, c1, c2, fm1, C3, wt, fm2, C3', c4]
  obtain ⟨C4, C5⟩ := C4
  simp only [if_pos C4, zb1_1 C5] at c4
  have hp : ∀ i : Nat, (i : Int) < nc f (w0 f 5) → pA f (wi f (w0 f 5) i) 1 sc := by
    intro i hi
    have := (zall_iff _ _ _).mp C5 i (by omega) (by omega)
    exact (of_decide_eq_true this).1
  have d1 := fun Q => m_areRed h (mp := w0 f 6) (l := w0 f 5) (by omega) i6.2 (by omega) i5.2 C4.1 C4.2.2 hp Q
  by_cases D1 : nf f (w0 f 6) = 1 ∧ rdm f (w0 f 6) (w0 f 5) (nc f (w0 f 5)).toNat 0 0 0 = true
  case neg =>
    rw [if_neg (fun x => D1 ⟨x.2.1, x.2.2.1⟩)]
    have d1 : ∀ Q : ZQ, zCall Cd 293 10 [(34, 34), (0, w0 f 6), (0, w0 f 5)] S Q = Q S (0, 0) := by
      intro Q
      rw [d1]
      by_cases q : nf f (w0 f 6) = 1
      · rw [if_pos q, zb1_0 (fun x => D1 ⟨q, x⟩)]
      · rw [if_neg q]
    simp (disch := omega) only [bcd, true_and, and_true, and_self, if_true, if_false, ite_true, ite_false, reduceIte, Int.reduceEq, Int.reduceNe, Int.reduceLT, Int.reduceLE, Int.reduceAdd, Int.reduceSub, Int.reduceMul, Int.reduceNeg, Int.reduceMod, Int.reduceDiv, Int.reduceToNat, Nat.reduceAdd, Nat.reduceLeDiff, List.length_cons, List.length_nil, not_false_eq_true, not_true_eq_false, ne_eq, or_false, false_or, or_self, false_and, and_false, or_true, true_or, ite_self, Int.add_sub_cancel, Int.sub_add_cancel, b_lc1, b_lc2, b_lc3, b_lc4, b_lc5, up_eq, up_ei, up_n1, up_n2, W32i, W8i, W16i, W64i, if_ps, if_ng, and_tr, fil_n1, fil_in, fil_out, le_tt, le_ff, lt_tt, lt_ff, eq_tt, eq_ff, M283, k3, k4, k5, k6, c1, c2, fm1, C3, wt, fm2, C3', c4, d1]
  obtain ⟨D1, D2⟩ := D1
  simp only [if_pos D1, zb1_1 D2] at d1
  by_cases D3 : cL f (w0 f 7) 0 8
  case neg =>
    rw [if_neg (fun x => D3 x.2.2.2.1)]
    simp only [if_neg D3] at d3
    simp (disch := omega) only [bcd, true_and, and_true, and_self, if_true, if_false, ite_true, ite_false, reduceIte, Int.reduceEq, Int.reduceNe, Int.reduceLT, Int.reduceLE, Int.reduceAdd, Int.reduceSub, Int.reduceMul, Int.reduceNeg, Int.reduceMod, Int.reduceDiv, Int.reduceToNat, Nat.reduceAdd, Nat.reduceLeDiff, List.length_cons, List.length_nil, not_false_eq_true, not_true_eq_false, ne_eq, or_false, false_or, or_self, false_and, and_false, or_true, true_or, ite_self, Int.add_sub_cancel, Int.sub_add_cancel, b_lc1, b_lc2, b_lc3, b_lc4, b_lc5, up_eq, up_ei, up_n1, up_n2, W32i, W8i, W16i, W64i, if_ps, if_ng, and_tr, fil_n1, fil_in, fil_out, le_tt, le_ff, lt_tt, lt_ff, eq_tt, eq_ff, M283, k3, k4, k5, k6, k7, c1, c2, fm1, C3, wt, fm2, C3', c4, d1, d3]
  have cb := nc_b h.v sz (by omega) i7.2 D3.1
  simp only [if_pos D3, sig_eq h.v (by omega) i7.2 D3.1 cb.1] at d3
  by_cases D4 : (zall (pInt f (w0 f 7) 0 255) (nc f (w0 f 7)).toNat 0 && zall (pRis f (w0 f 7)) (nc f (w0 f 7) - 1).toNat 1) = true
  case neg =>
    rw [if_neg (fun x => D4 (by rw [x.2.2.2.2.1, x.2.2.2.2.2]; rfl))]
    simp only [zb1_0 D4] at d3
    simp (disch := omega) only [bcd, true_and, and_true, and_self, if_true, if_false, ite_true, ite_false, reduceIte, Int.reduceEq, Int.reduceNe, Int.reduceLT, Int.reduceLE, Int.reduceAdd, Int.reduceSub, Int.reduceMul, Int.reduceNeg, Int.reduceMod, Int.reduceDiv, Int.reduceToNat, Nat.reduceAdd, Nat.reduceLeDiff, List.length_cons, List.length_nil, not_false_eq_true, not_true_eq_false, ne_eq, or_false, false_or, or_self, false_and, and_false, or_true, true_or, ite_self, Int.add_sub_cancel, Int.sub_add_cancel, b_lc1, b_lc2, b_lc3, b_lc4, b_lc5, up_eq, up_ei, up_n1, up_n2, W32i, W8i, W16i, W64i, if_ps, if_ng, and_tr, fil_n1, fil_in, fil_out, le_tt, le_ff, lt_tt, lt_ff, eq_tt, eq_ff, M283, k3, k4, k5, k6, k7, c1, c2, fm1, C3, wt, fm2, C3', c4, d1, d3]
  simp only [zb1_1 D4] at d3
  rw [Bool.and_eq_true] at D4
  rw [if_pos ⟨⟨C1, ⟨C2a, C2b, C2c⟩, aL.mpr ⟨C3, C3'⟩, C4, C5⟩, D1, D2, D3, D4.1, D4.2⟩]
  simp (disch := omega) only [bcd, true_and, and_true, and_self, if_true, if_false, ite_true, ite_false, reduceIte, Int.reduceEq, Int.reduceNe, Int.reduceLT, Int.reduceLE, Int.reduceAdd, Int.reduceSub, Int.reduceMul, Int.reduceNeg, Int.reduceMod, Int.reduceDiv, Int.reduceToNat, Nat.reduceAdd, Nat.reduceLeDiff, List.length_cons, List.length_nil, not_false_eq_true, not_true_eq_false, ne_eq, or_false, false_or, or_self, false_and, and_false, or_true, true_or, ite_self, Int.add_sub_cancel, Int.sub_add_cancel, b_lc1, b_lc2, b_lc3, b_lc4, b_lc5, up_eq, up_ei, up_n1, up_n2, W32i, W8i, W16i, W64i, if_ps, if_ng, and_tr, fil_n1, fil_in, fil_out, le_tt, le_ff, lt_tt, lt_ff, eq_tt, eq_ff, M283, k3, k4, k5, k6, k7, c1, c2, fm1, C3, wt, fm2, C3', c4, d1, d3]
theorem m_isTx {S : Sto} {f : F} {sc : Int} (h : MD S f) (mh : MH S f) (hs : S 34 3 = sc) (s0 : 0 ≤ sc ∧ sc ≤ 32) (f0 : 0 < fsize f) : ∃ S', zR 283 4 [(34, 34)] S S' (0, zb1 (isTx f sc)) ∧ (∀ b, b ≠ 142 → S' b = S b) ∧ (isTx f sc = true → MFl S' f) := by
  have sz := h.sz
  have im := fun Q => m_isCon h 0 0 8 (by omega) f0 Q
  by_cases hM : cM f 0 0 8
  case neg =>
    refine ⟨S, fun Q => ?_, fun _ _ => rfl, fun x => absurd (of_decide_eq_true x).1 hM⟩
    rw [show isTx f sc = false from decide_eq_false (fun x => hM x.1), zb1_f]
    simp only [if_neg hM] at im
    simp (disch := omega) only [bcd, true_and, and_true, and_self, if_true, if_false, ite_true, ite_false, reduceIte, Int.reduceEq, Int.reduceNe, Int.reduceLT, Int.reduceLE, Int.reduceAdd, Int.reduceSub, Int.reduceMul, Int.reduceNeg, Int.reduceMod, Int.reduceDiv, Int.reduceToNat, Nat.reduceAdd, Nat.reduceLeDiff, List.length_cons, List.length_nil, not_false_eq_true, not_true_eq_false, ne_eq, or_false, false_or, or_self, false_and, and_false, or_true, true_or, ite_self, Int.add_sub_cancel, Int.sub_add_cancel, b_lc1, b_lc2, b_lc3, b_lc4, b_lc5, up_eq, up_ei, up_n1, up_n2, W32i, W8i, W16i, W64i, if_ps, if_ng, and_tr, fil_n1, fil_in, fil_out, le_tt, le_ff, lt_tt, lt_ff, eq_tt, eq_ff, M283, im]
  simp only [if_pos hM] at im
  obtain ⟨T, hT⟩ : ∃ T, fil S 142 0 8 (fun i => wi f 0 i.toNat) = T := ⟨_, rfl⟩
  have G : MFl T f := by
    apply MFl.mk1
    case fl => intro j hj; rw [← hT]; simp (disch := omega) only [true_and, and_true, and_self, if_true, if_false, ite_true, ite_false, reduceIte, Int.reduceEq, Int.reduceNe, Int.reduceLT, Int.reduceLE, Int.reduceAdd, Int.reduceSub, Int.reduceMul, Int.reduceNeg, Int.reduceMod, Int.reduceDiv, Int.reduceToNat, Nat.reduceAdd, Nat.reduceLeDiff, List.length_cons, List.length_nil, not_false_eq_true, not_true_eq_false, ne_eq, or_false, false_or, or_self, false_and, and_false, or_true, true_or, ite_self, Int.add_sub_cancel, Int.sub_add_cancel, b_lc1, b_lc2, b_lc3, b_lc4, b_lc5, up_eq, up_ei, up_n1, up_n2, W32i, W8i, W16i, W64i, if_ps, if_ng, and_tr, fil_n1, fil_in, fil_out]; rfl
    case tr => trivial
  have h' : MD T f := by
    obtain ⟨h_v, h_sz, h_fm, h_tg, h_ct, h_wh⟩ := h
    rw [← hT]
    apply MD.mk1 <;> first | assumption | (simp (disch := omega) only [true_and, and_true, and_self, if_true, if_false, ite_true, ite_false, reduceIte, Int.reduceEq, Int.reduceNe, Int.reduceLT, Int.reduceLE, Int.reduceAdd, Int.reduceSub, Int.reduceMul, Int.reduceNeg, Int.reduceMod, Int.reduceDiv, Int.reduceToNat, Nat.reduceAdd, Nat.reduceLeDiff, List.length_cons, List.length_nil, not_false_eq_true, not_true_eq_false, ne_eq, or_false, false_or, or_self, false_and, and_false, or_true, true_or, ite_self, Int.add_sub_cancel, Int.sub_add_cancel, b_lc1, b_lc2, b_lc3, b_lc4, b_lc5, up_eq, up_ei, up_n1, up_n2, W32i, W8i, W16i, W64i, if_ps, if_ng, and_tr, fil_n1, fil_in, fil_out]; assumption)
  have mh' : MH T f := by
    obtain ⟨mh_nd, mh_hd, mh_pp⟩ := mh
    rw [← hT]
    apply MH.mk1 <;> first | assumption | (simp (disch := omega) only [true_and, and_true, and_self, if_true, if_false, ite_true, ite_false, reduceIte, Int.reduceEq, Int.reduceNe, Int.reduceLT, Int.reduceLE, Int.reduceAdd, Int.reduceSub, Int.reduceMul, Int.reduceNeg, Int.reduceMod, Int.reduceDiv, Int.reduceToNat, Nat.reduceAdd, Nat.reduceLeDiff, List.length_cons, List.length_nil, not_false_eq_true, not_true_eq_false, ne_eq, or_false, false_or, or_self, false_and, and_false, or_true, true_or, ite_self, Int.add_sub_cancel, Int.sub_add_cancel, b_lc1, b_lc2, b_lc3, b_lc4, b_lc5, up_eq, up_ei, up_n1, up_n2, W32i, W8i, W16i, W64i, if_ps, if_ng, and_tr, fil_n1, fil_in, fil_out]; assumption)
  have hs' : T 34 3 = sc := by rw [← hT]; simp (disch := omega) only [true_and, and_true, and_self, if_true, if_false, ite_true, ite_false, reduceIte, Int.reduceEq, Int.reduceNe, Int.reduceLT, Int.reduceLE, Int.reduceAdd, Int.reduceSub, Int.reduceMul, Int.reduceNeg, Int.reduceMod, Int.reduceDiv, Int.reduceToNat, Nat.reduceAdd, Nat.reduceLeDiff, List.length_cons, List.length_nil, not_false_eq_true, not_true_eq_false, ne_eq, or_false, false_or, or_self, false_and, and_false, or_true, true_or, ite_self, Int.add_sub_cancel, Int.sub_add_cancel, b_lc1, b_lc2, b_lc3, b_lc4, b_lc5, up_eq, up_ei, up_n1, up_n2, W32i, W8i, W16i, W64i, if_ps, if_ng, and_tr, fil_n1, fil_in, fil_out, hs]
  refine ⟨T, fun Q => ?_, fun b hb => by rw [← hT]; simp (disch := omega) only [true_and, and_true, and_self, if_true, if_false, ite_true, ite_false, reduceIte, Int.reduceEq, Int.reduceNe, Int.reduceLT, Int.reduceLE, Int.reduceAdd, Int.reduceSub, Int.reduceMul, Int.reduceNeg, Int.reduceMod, Int.reduceDiv, Int.reduceToNat, Nat.reduceAdd, Nat.reduceLeDiff, List.length_cons, List.length_nil, not_false_eq_true, not_true_eq_false, ne_eq, or_false, false_or, or_self, false_and, and_false, or_true, true_or, ite_self, Int.add_sub_cancel, Int.sub_add_cancel, b_lc1, b_lc2, b_lc3, b_lc4, b_lc5, up_eq, up_ei, up_n1, up_n2, W32i, W8i, W16i, W64i, if_ps, if_ng, and_tr, fil_n1, fil_in, fil_out, fil_fn], fun _ => G⟩
  have fl := m_flds hM h.v f0 Q 8 0 S h (by omega) (by omega)
  have st : zCall Cd 283 4 [(34, 34)] S Q = zG Cd 283 (Cd 283 15) [(34, 34), (0, 0), (9, 0), (9, 0)] [] S Q := by simp (disch := omega) only [bcd, true_and, and_true, and_self, if_true, if_false, ite_true, ite_false, reduceIte, Int.reduceEq, Int.reduceNe, Int.reduceLT, Int.reduceLE, Int.reduceAdd, Int.reduceSub, Int.reduceMul, Int.reduceNeg, Int.reduceMod, Int.reduceDiv, Int.reduceToNat, Nat.reduceAdd, Nat.reduceLeDiff, List.length_cons, List.length_nil, not_false_eq_true, not_true_eq_false, ne_eq, or_false, false_or, or_self, false_and, and_false, or_true, true_or, ite_self, Int.add_sub_cancel, Int.sub_add_cancel, b_lc1, b_lc2, b_lc3, b_lc4, b_lc5, up_eq, up_ei, up_n1, up_n2, W32i, W8i, W16i, W64i, if_ps, if_ng, and_tr, fil_n1, fil_in, fil_out, le_tt, le_ff, lt_tt, lt_ff, eq_tt, eq_ff, M283, im]
  rw [st, fl, hT, L283_15]
  have i0 := w0_in h.v hM f0 0 (by omega)
  have i1 := w0_in h.v hM f0 1 (by omega)
  have i2 := w0_in h.v hM f0 2 (by omega)
  have k0 : T 142 0 = w0 f 0 := G.fl 0 (by omega)
  have k1 : T 142 1 = w0 f 1 := G.fl 1 (by omega)
  have k2 : T 142 2 = w0 f 2 := G.fl 2 (by omega)
  have a1 := fun Q => m_isList h' (w0 f 0) 1 8 (by omega) i0.2 Q
  have a2 := fun Q => m_isList h' (w0 f 1) 0 4 (by omega) i1.2 Q
  have a3 := fun Q => m_isList h' (w0 f 2) 0 8 (by omega) i2.2 Q
  have N := fun k c => m_no214 G hM h.v sz f0 k c Q
  by_cases A1 : cL f (w0 f 0) 1 8
  case neg =>
    rw [show isTx f sc = false from decide_eq_false (fun x => A1 x.2.1.1), zb1_f]
    simp only [if_neg A1] at a1
    simp (disch := omega) only [bcd, true_and, and_true, and_self, if_true, if_false, ite_true, ite_false, reduceIte, Int.reduceEq, Int.reduceNe, Int.reduceLT, Int.reduceLE, Int.reduceAdd, Int.reduceSub, Int.reduceMul, Int.reduceNeg, Int.reduceMod, Int.reduceDiv, Int.reduceToNat, Nat.reduceAdd, Nat.reduceLeDiff, List.length_cons, List.length_nil, not_false_eq_true, not_true_eq_false, ne_eq, or_false, false_or, or_self, false_and, and_false, or_true, true_or, ite_self, Int.add_sub_cancel, Int.sub_add_cancel, b_lc1, b_lc2, b_lc3, b_lc4, b_lc5, up_eq, up_ei, up_n1, up_n2, W32i, W8i, W16i, W64i, if_ps, if_ng, and_tr, fil_n1, fil_in, fil_out, le_tt, le_ff, lt_tt, lt_ff, eq_tt, eq_ff, M283, k0, a1, N]
  simp only [if_pos A1] at a1
  by_cases A2 : cL f (w0 f 1) 0 4
  case neg =>
    rw [show isTx f sc = false from decide_eq_false (fun x => A2 x.2.1.2.2.1), zb1_f]
    simp only [if_neg A2] at a2
    simp (disch := omega) only [bcd, true_and, and_true, and_self, if_true, if_false, ite_true, ite_false, reduceIte, Int.reduceEq, Int.reduceNe, Int.reduceLT, Int.reduceLE, Int.reduceAdd, Int.reduceSub, Int.reduceMul, Int.reduceNeg, Int.reduceMod, Int.reduceDiv, Int.reduceToNat, Nat.reduceAdd, Nat.reduceLeDiff, List.length_cons, List.length_nil, not_false_eq_true, not_true_eq_false, ne_eq, or_false, false_or, or_self, false_and, and_false, or_true, true_or, ite_self, Int.add_sub_cancel, Int.sub_add_cancel, b_lc1, b_lc2, b_lc3, b_lc4, b_lc5, up_eq, up_ei, up_n1, up_n2, W32i, W8i, W16i, W64i, if_ps, if_ng, and_tr, fil_n1, fil_in, fil_out, le_tt, le_ff, lt_tt, lt_ff, eq_tt, eq_ff, M283, k0, k1, a1, a2, N]
  simp only [if_pos A2] at a2
  by_cases A3 : cL f (w0 f 2) 0 8
  case neg =>
    rw [show isTx f sc = false from decide_eq_false (fun x => A3 x.2.2.1.1), zb1_f]
    simp only [if_neg A3] at a3
    simp (disch := omega) only [bcd, true_and, and_true, and_self, if_true, if_false, ite_true, ite_false, reduceIte, Int.reduceEq, Int.reduceNe, Int.reduceLT, Int.reduceLE, Int.reduceAdd, Int.reduceSub, Int.reduceMul, Int.reduceNeg, Int.reduceMod, Int.reduceDiv, Int.reduceToNat, Nat.reduceAdd, Nat.reduceLeDiff, List.length_cons, List.length_nil, not_false_eq_true, not_true_eq_false, ne_eq, or_false, false_or, or_self, false_and, and_false, or_true, true_or, ite_self, Int.add_sub_cancel, Int.sub_add_cancel, b_lc1, b_lc2, b_lc3, b_lc4, b_lc5, up_eq, up_ei, up_n1, up_n2, W32i, W8i, W16i, W64i, if_ps, if_ng, and_tr, fil_n1, fil_in, fil_out, le_tt, le_ff, lt_tt, lt_ff, eq_tt, eq_ff, M283, k0, k1, k2, a1, a2, a3, N]
  simp only [if_pos A3] at a3
  obtain ⟨R, hR⟩ : ∃ R, zG Cd 283 (Cd 283 94) [(34, 34), (0, 1), (0, 0), (9, 0)] [] T Q = R := ⟨_, rfl⟩
  have st2 : ∀ (X : Prop), (R = X) → zG Cd 283 (Cd 283 39) [(34, 34), (0, 8), (9, 0), (9, 0)] [] T Q = X := by
    intro X hX
    rw [← hX]
    simp (disch := omega) only [bcd, true_and, and_true, and_self, if_true, if_false, ite_true, ite_false, reduceIte, Int.reduceEq, Int.reduceNe, Int.reduceLT, Int.reduceLE, Int.reduceAdd, Int.reduceSub, Int.reduceMul, Int.reduceNeg, Int.reduceMod, Int.reduceDiv, Int.reduceToNat, Nat.reduceAdd, Nat.reduceLeDiff, List.length_cons, List.length_nil, not_false_eq_true, not_true_eq_false, ne_eq, or_false, false_or, or_self, false_and, and_false, or_true, true_or, ite_self, Int.add_sub_cancel, Int.sub_add_cancel, b_lc1, b_lc2, b_lc3, b_lc4, b_lc5, up_eq, up_ei, up_n1, up_n2, W32i, W8i, W16i, W64i, if_ps, if_ng, and_tr, fil_n1, fil_in, fil_out, le_tt, le_ff, lt_tt, lt_ff, eq_tt, eq_ff, M283, k0, k1, k2, a1, a2, a3, hR]
  obtain ⟨R2, hR2⟩ : ∃ R2, zG Cd 283 (Cd 283 39) [(34, 34), (0, 8), (9, 0), (9, 0)] [] T Q = R2 := ⟨_, rfl⟩
  rw [hR2] at st2
  simp (disch := omega) only [bcd, true_and, and_true, and_self, if_true, if_false, ite_true, ite_false, reduceIte, Int.reduceEq, Int.reduceNe, Int.reduceLT, Int.reduceLE, Int.reduceAdd, Int.reduceSub, Int.reduceMul, Int.reduceNeg, Int.reduceMod, Int.reduceDiv, Int.reduceToNat, Nat.reduceAdd, Nat.reduceLeDiff, List.length_cons, List.length_nil, not_false_eq_true, not_true_eq_false, ne_eq, or_false, false_or, or_self, false_and, and_false, or_true, true_or, ite_self, Int.add_sub_cancel, Int.sub_add_cancel, b_lc1, b_lc2, b_lc3, b_lc4, b_lc5, up_eq, up_ei, up_n1, up_n2, W32i, W8i, W16i, W64i, if_ps, if_ng, and_tr, fil_n1, fil_in, fil_out, le_tt, le_ff, lt_tt, lt_ff, eq_tt, eq_ff, hR2]
  apply st2
  rw [← hR]
  have I1 := m_ins h' G hM f0 A1 Q (nc f (w0 f 0)).toNat 0 (9, 0) (by omega)
  rw [show ((0 : Nat) : Int) = 0 by rfl] at I1
  by_cases B1 : zall (pIn f (w0 f 0)) (nc f (w0 f 0)).toNat 0 = true
  case neg =>
    rw [I1.2 B1, show isTx f sc = false from decide_eq_false (fun x => B1 x.2.1.2.1), zb1_f]
  obtain ⟨y, e1⟩ := I1.1 B1
  rw [e1]
  have I2 := m_cols h' G hM f0 A2 Q y (nc f (w0 f 1)).toNat 0 (by omega)
  rw [show ((0 : Nat) : Int) = 0 by rfl] at I2
  by_cases B2 : aLong f (w0 f 1) = true
  case neg =>
    rw [I2.2 B2, show isTx f sc = false from decide_eq_false (fun x => B2 x.2.1.2.2.2), zb1_f]
  rw [I2.1 B2]
  have I3 := m_outs h' mh' G hs' s0 hM f0 A3 Q y (nc f (w0 f 2)).toNat 0 (by omega)
  rw [show ((0 : Nat) : Int) = 0 by rfl] at I3
  by_cases B3 : zall (pOuts f (w0 f 2) sc) (nc f (w0 f 2)).toNat 0 = true
  case neg =>
    rw [I3.2 B3, show isTx f sc = false from decide_eq_false (fun x => B3 x.2.2.1.2), zb1_f]
  rw [I3.1 B3, m_is255 h' G hs' s0 hM f0]
  congr 2
  by_cases q : txC f sc ∧ txD f
  · rw [if_pos q, show isTx f sc = true from decide_eq_true ⟨hM, ⟨A1, B1, A2, B2⟩, ⟨A3, B3⟩, q⟩, zb1_t]
  · rw [if_neg q, show isTx f sc = false from decide_eq_false (fun x => q x.2.2.2), zb1_f]
