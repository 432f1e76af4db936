-- uses: 89
theorem x_thA {S : Sto} {f : F} {sc : Int} {L : Led} (h : XS S f sc L) (i : Nat) (hi : (i : Int) < nc f (w0 f 0)) (lv : ∀ j : Nat, j ≤ i → zlive L ((nt f (wi f (w0 f 0) j + 1)))) (Q : ZQ) : ∀ (c j : Nat), j + c = i → zG Cd 10 (Cd 10 49) [(11, 11), (0, (i : Int)), (0, (j : Int))] [] S Q = if zall (fun j => decide ((nt f (wi f (w0 f 0) j + 1)) ≠ (nt f (wi f (w0 f 0) i + 1)))) c j = true then zG Cd 10 (Cd 10 75) [(11, 11), (0, (i : Int)), (0, (i : Int))] [] S Q else Q S (0, 0) := by
  have sz := h.t.sz
  have l0 := h.t.l0
  intro c
  induction c with
  | zero =>
    intro j hj
    rw [zall, if_pos rfl, show j = i by omega]
    obtain ⟨R, hR⟩ : ∃ R, zG Cd 10 (Cd 10 75) [(11, 11), (0, (i : Int)), (0, (i : Int))] [] S Q = R := ⟨_, rfl⟩
    rw [L10_49]
    simp (disch := omega) only [bcd, true_and, and_true, and_self, if_true, if_false, ite_true, ite_false, reduceIte, Int.reduceEq, Int.reduceNe, Int.reduceLT, Int.reduceLE, Int.reduceAdd, Int.reduceSub, Int.reduceMul, Int.reduceNeg, Int.reduceMod, Int.reduceDiv, Int.reduceToNat, Nat.reduceAdd, Nat.reduceLeDiff, List.length_cons, List.length_nil, not_false_eq_true, not_true_eq_false, ne_eq, or_false, false_or, or_self, false_and, and_false, or_true, true_or, ite_self, Int.add_sub_cancel, Int.sub_add_cancel, b_lc1, b_lc2, b_lc3, b_lc4, b_lc5, up_eq, up_ei, up_n1, up_n2, W32i, W8i, W16i, W64i, if_ps, if_ng, and_tr, fil_n1, fil_in, fil_out, le_tt, le_ff, lt_tt, lt_ff, eq_tt, eq_ff, hR]
  | succ c ih =>
    intro j hj
    have e1 := fun Q => x_input h j (by omega) (lv j (by omega)) Q
    have e2 := fun Q => x_input h i hi (lv i (by omega)) Q
    have I := ih (j + 1) (by omega)
    rw [show ((j + 1 : Nat) : Int) = (j : Int) + 1 by omega] at I
    rw [zall]
    by_cases q : (nt f (wi f (w0 f 0) j + 1)) = (nt f (wi f (w0 f 0) i + 1))
    · rw [show decide ((nt f (wi f (w0 f 0) j + 1)) ≠ (nt f (wi f (w0 f 0) i + 1))) = false from decide_eq_false (fun x => x q), Bool.false_and, if_neg (by decide)]
      rw [L10_49]
      simp (disch := omega) only [bcd, true_and, and_true, and_self, if_true, if_false, ite_true, ite_false, reduceIte, Int.reduceEq, Int.reduceNe, Int.reduceLT, Int.reduceLE, Int.reduceAdd, Int.reduceSub, Int.reduceMul, Int.reduceNeg, Int.reduceMod, Int.reduceDiv, Int.reduceToNat, Nat.reduceAdd, Nat.reduceLeDiff, List.length_cons, List.length_nil, not_false_eq_true, not_true_eq_false, ne_eq, or_false, false_or, or_self, false_and, and_false, or_true, true_or, ite_self, Int.add_sub_cancel, Int.sub_add_cancel, b_lc1, b_lc2, b_lc3, b_lc4, b_lc5, up_eq, up_ei, up_n1, up_n2, W32i, W8i, W16i, W64i, if_ps, if_ng, and_tr, fil_n1, fil_in, fil_out, le_tt, le_ff, lt_tt, lt_ff, eq_tt, eq_ff, M10, e1, e2, q]
    · rw [show decide ((nt f (wi f (w0 f 0) j + 1)) ≠ (nt f (wi f (w0 f 0) i + 1))) = true from decide_eq_true q, Bool.true_and, ← I]
      conv => lhs; rw [L10_49]
      simp (disch := omega) only [bcd, true_and, and_true, and_self, if_true, if_false, ite_true, ite_false, reduceIte, Int.reduceEq, Int.reduceNe, Int.reduceLT, Int.reduceLE, Int.reduceAdd, Int.reduceSub, Int.reduceMul, Int.reduceNeg, Int.reduceMod, Int.reduceDiv, Int.reduceToNat, Nat.reduceAdd, Nat.reduceLeDiff, List.length_cons, List.length_nil, not_false_eq_true, not_true_eq_false, ne_eq, or_false, false_or, or_self, false_and, and_false, or_true, true_or, ite_self, Int.add_sub_cancel, Int.sub_add_cancel, b_lc1, b_lc2, b_lc3, b_lc4, b_lc5, up_eq, up_ei, up_n1, up_n2, W32i, W8i, W16i, W64i, if_ps, if_ng, and_tr, fil_n1, fil_in, fil_out, le_tt, le_ff, lt_tt, lt_ff, eq_tt, eq_ff, M10, e1, e2, q]
theorem x_thB1 {S : Sto} {f : F} {sc : Int} {L : Led} (h : XS S f sc L) (i : Nat) (hi : (i : Int) < nc f (w0 f 1)) (lv : ∀ j : Nat, j ≤ i → zlive L ((nt f (wi f (w0 f 1) j)))) (Q : ZQ) : ∀ (c j : Nat), j + c = i → zG Cd 10 (Cd 10 128) [(11, 11), (0, (i : Int)), (0, (j : Int))] [] S Q = if zall (fun j => decide ((nt f (wi f (w0 f 1) j)) ≠ (nt f (wi f (w0 f 1) i)))) c j = true then zG Cd 10 (Cd 10 154) [(11, 11), (0, (i : Int)), (0, (i : Int))] [] S Q else Q S (0, 0) := by
  have sz := h.t.sz
  have l0 := h.t.l1
  intro c
  induction c with
  | zero =>
    intro j hj
    rw [zall, if_pos rfl, show j = i by omega]
    obtain ⟨R, hR⟩ : ∃ R, zG Cd 10 (Cd 10 154) [(11, 11), (0, (i : Int)), (0, (i : Int))] [] S Q = R := ⟨_, rfl⟩
    rw [L10_128]
    simp (disch := omega) only [bcd, true_and, and_true, and_self, if_true, if_false, ite_true, ite_false, reduceIte, Int.reduceEq, Int.reduceNe, Int.reduceLT, Int.reduceLE, Int.reduceAdd, Int.reduceSub, Int.reduceMul, Int.reduceNeg, Int.reduceMod, Int.reduceDiv, Int.reduceToNat, Nat.reduceAdd, Nat.reduceLeDiff, List.length_cons, List.length_nil, not_false_eq_true, not_true_eq_false, ne_eq, or_false, false_or, or_self, false_and, and_false, or_true, true_or, ite_self, Int.add_sub_cancel, Int.sub_add_cancel, b_lc1, b_lc2, b_lc3, b_lc4, b_lc5, up_eq, up_ei, up_n1, up_n2, W32i, W8i, W16i, W64i, if_ps, if_ng, and_tr, fil_n1, fil_in, fil_out, le_tt, le_ff, lt_tt, lt_ff, eq_tt, eq_ff, hR]
  | succ c ih =>
    intro j hj
    have e1 := fun Q => x_collat h j (by omega) (lv j (by omega)) Q
    have e2 := fun Q => x_collat h i hi (lv i (by omega)) Q
    have I := ih (j + 1) (by omega)
    rw [show ((j + 1 : Nat) : Int) = (j : Int) + 1 by omega] at I
    rw [zall]
    by_cases q : (nt f (wi f (w0 f 1) j)) = (nt f (wi f (w0 f 1) i))
    · rw [show decide ((nt f (wi f (w0 f 1) j)) ≠ (nt f (wi f (w0 f 1) i))) = false from decide_eq_false (fun x => x q), Bool.false_and, if_neg (by decide)]
      rw [L10_128]
      simp (disch := omega) only [bcd, true_and, and_true, and_self, if_true, if_false, ite_true, ite_false, reduceIte, Int.reduceEq, Int.reduceNe, Int.reduceLT, Int.reduceLE, Int.reduceAdd, Int.reduceSub, Int.reduceMul, Int.reduceNeg, Int.reduceMod, Int.reduceDiv, Int.reduceToNat, Nat.reduceAdd, Nat.reduceLeDiff, List.length_cons, List.length_nil, not_false_eq_true, not_true_eq_false, ne_eq, or_false, false_or, or_self, false_and, and_false, or_true, true_or, ite_self, Int.add_sub_cancel, Int.sub_add_cancel, b_lc1, b_lc2, b_lc3, b_lc4, b_lc5, up_eq, up_ei, up_n1, up_n2, W32i, W8i, W16i, W64i, if_ps, if_ng, and_tr, fil_n1, fil_in, fil_out, le_tt, le_ff, lt_tt, lt_ff, eq_tt, eq_ff, M10, e1, e2, q]
    · rw [show decide ((nt f (wi f (w0 f 1) j)) ≠ (nt f (wi f (w0 f 1) i))) = true from decide_eq_true q, Bool.true_and, ← I]
      conv => lhs; rw [L10_128]
      simp (disch := omega) only [bcd, true_and, and_true, and_self, if_true, if_false, ite_true, ite_false, reduceIte, Int.reduceEq, Int.reduceNe, Int.reduceLT, Int.reduceLE, Int.reduceAdd, Int.reduceSub, Int.reduceMul, Int.reduceNeg, Int.reduceMod, Int.reduceDiv, Int.reduceToNat, Nat.reduceAdd, Nat.reduceLeDiff, List.length_cons, List.length_nil, not_false_eq_true, not_true_eq_false, ne_eq, or_false, false_or, or_self, false_and, and_false, or_true, true_or, ite_self, Int.add_sub_cancel, Int.sub_add_cancel, b_lc1, b_lc2, b_lc3, b_lc4, b_lc5, up_eq, up_ei, up_n1, up_n2, W32i, W8i, W16i, W64i, if_ps, if_ng, and_tr, fil_n1, fil_in, fil_out, le_tt, le_ff, lt_tt, lt_ff, eq_tt, eq_ff, M10, e1, e2, q]
theorem x_thB2 {S : Sto} {f : F} {sc : Int} {L : Led} (h : XS S f sc L) (i : Nat) (hi : (i : Int) < nc f (w0 f 1)) (lc : zlive L ((nt f (wi f (w0 f 1) i)))) (lv : ∀ j : Nat, (j : Int) < nc f (w0 f 0) → zlive L ((nt f (wi f (w0 f 0) j + 1)))) (Q : ZQ) : ∀ (c j : Nat), (j : Int) + c = nc f (w0 f 0) → zG Cd 10 (Cd 10 156) [(11, 11), (0, (i : Int)), (0, (j : Int))] [] S Q = if zall (fun j => decide ((nt f (wi f (w0 f 0) j + 1)) ≠ (nt f (wi f (w0 f 1) i)))) c j = true then zG Cd 10 (Cd 10 185) [(11, 11), (0, (i : Int)), (0, nc f (w0 f 0))] [] S Q else Q S (0, 0) := by
  have sz := h.t.sz
  have l0 := h.t.l0
  have ni := fun Q => x_inputs h Q
  intro c
  induction c with
  | zero =>
    intro j hj
    rw [zall, if_pos rfl, show nc f (w0 f 0) = (j : Int) by omega]
    obtain ⟨R, hR⟩ : ∃ R, zG Cd 10 (Cd 10 185) [(11, 11), (0, (i : Int)), (0, (j : Int))] [] S Q = R := ⟨_, rfl⟩
    rw [L10_156]
    simp (disch := omega) only [bcd, true_and, and_true, and_self, if_true, if_false, ite_true, ite_false, reduceIte, Int.reduceEq, Int.reduceNe, Int.reduceLT, Int.reduceLE, Int.reduceAdd, Int.reduceSub, Int.reduceMul, Int.reduceNeg, Int.reduceMod, Int.reduceDiv, Int.reduceToNat, Nat.reduceAdd, Nat.reduceLeDiff, List.length_cons, List.length_nil, not_false_eq_true, not_true_eq_false, ne_eq, or_false, false_or, or_self, false_and, and_false, or_true, true_or, ite_self, Int.add_sub_cancel, Int.sub_add_cancel, b_lc1, b_lc2, b_lc3, b_lc4, b_lc5, up_eq, up_ei, up_n1, up_n2, W32i, W8i, W16i, W64i, if_ps, if_ng, and_tr, fil_n1, fil_in, fil_out, le_tt, le_ff, lt_tt, lt_ff, eq_tt, eq_ff, ni, hR]
  | succ c ih =>
    intro j hj
    have e1 := fun Q => x_input h j (by omega) (lv j (by omega)) Q
    have e2 := fun Q => x_collat h i hi lc Q
    have I := ih (j + 1) (by omega)
    rw [show ((j + 1 : Nat) : Int) = (j : Int) + 1 by omega] at I
    rw [zall]
    by_cases q : (nt f (wi f (w0 f 0) j + 1)) = (nt f (wi f (w0 f 1) i))
    · rw [show decide ((nt f (wi f (w0 f 0) j + 1)) ≠ (nt f (wi f (w0 f 1) i))) = false from decide_eq_false (fun x => x q), Bool.false_and, if_neg (by decide)]
      rw [L10_156]
      simp (disch := omega) only [bcd, true_and, and_true, and_self, if_true, if_false, ite_true, ite_false, reduceIte, Int.reduceEq, Int.reduceNe, Int.reduceLT, Int.reduceLE, Int.reduceAdd, Int.reduceSub, Int.reduceMul, Int.reduceNeg, Int.reduceMod, Int.reduceDiv, Int.reduceToNat, Nat.reduceAdd, Nat.reduceLeDiff, List.length_cons, List.length_nil, not_false_eq_true, not_true_eq_false, ne_eq, or_false, false_or, or_self, false_and, and_false, or_true, true_or, ite_self, Int.add_sub_cancel, Int.sub_add_cancel, b_lc1, b_lc2, b_lc3, b_lc4, b_lc5, up_eq, up_ei, up_n1, up_n2, W32i, W8i, W16i, W64i, if_ps, if_ng, and_tr, fil_n1, fil_in, fil_out, le_tt, le_ff, lt_tt, lt_ff, eq_tt, eq_ff, M10, ni, e1, e2, q]
    · rw [show decide ((nt f (wi f (w0 f 0) j + 1)) ≠ (nt f (wi f (w0 f 1) i))) = true from decide_eq_true q, Bool.true_and, ← I]
      conv => lhs; rw [L10_156]
      simp (disch := omega) only [bcd, true_and, and_true, and_self, if_true, if_false, ite_true, ite_false, reduceIte, Int.reduceEq, Int.reduceNe, Int.reduceLT, Int.reduceLE, Int.reduceAdd, Int.reduceSub, Int.reduceMul, Int.reduceNeg, Int.reduceMod, Int.reduceDiv, Int.reduceToNat, Nat.reduceAdd, Nat.reduceLeDiff, List.length_cons, List.length_nil, not_false_eq_true, not_true_eq_false, ne_eq, or_false, false_or, or_self, false_and, and_false, or_true, true_or, ite_self, Int.add_sub_cancel, Int.sub_add_cancel, b_lc1, b_lc2, b_lc3, b_lc4, b_lc5, up_eq, up_ei, up_n1, up_n2, W32i, W8i, W16i, W64i, if_ps, if_ng, and_tr, fil_n1, fil_in, fil_out, le_tt, le_ff, lt_tt, lt_ff, eq_tt, eq_ff, M10, ni, e1, e2, q]
theorem thA_l {L : Led} {f : F} {i : Nat} (h : thA L f i = true) : zlive L ((nt f (wi f (w0 f 0) i + 1))) := by
  unfold thA at h
  rw [Bool.and_eq_true] at h
  exact of_decide_eq_true h.1
theorem thB_l {L : Led} {f : F} {i : Nat} (h : thB L f i = true) : zlive L ((nt f (wi f (w0 f 1) i))) := by
  unfold thB at h
  rw [Bool.and_eq_true] at h
  exact of_decide_eq_true h.1
theorem x_areThere {S : Sto} {f : F} {sc : Int} {L : Led} (h : XS S f sc L) (Q : ZQ) : zCall Cd 10 3 [(11, 11)] S Q = Q S (0, zb1 (there L f)) := by
  have sz := h.t.sz
  have l0 := h.t.l0
  have l1 := h.t.l1
  have ni := fun Q => x_inputs h Q
  have nk := fun Q => x_collats h Q
  have k0 : S 113 0 = w0 f 0 := h.s.fl 0 (by omega)
  have k1 : S 113 1 = w0 f 1 := h.s.fl 1 (by omega)
  have a0 := h.t.fd 0 (by omega)
  have a1 := h.t.fd 1 (by omega)
  have lB : ∀ (_ : ∀ j : Nat, (j : Int) < nc f (w0 f 0) → zlive L ((nt f (wi f (w0 f 0) j + 1)))) (c i : Nat) (y : AV), (i : Int) + c = nc f (w0 f 1) → (∀ j : Nat, j < i → zlive L ((nt f (wi f (w0 f 1) j)))) → zG Cd 10 (Cd 10 83) [(11, 11), (0, (i : Int)), y] [] S Q = Q S (0, zb1 (zall (thB L f) c i)) := by
    intro lI c
    induction c with
    | zero =>
      intro i y hi lv
      rw [L10_83, zall, zb1_t]
      simp (disch := omega) only [bcd, true_and, and_true, and_self, if_true, if_false, ite_true, ite_false, reduceIte, Int.reduceEq, Int.reduceNe, Int.reduceLT, Int.reduceLE, Int.reduceAdd, Int.reduceSub, Int.reduceMul, Int.reduceNeg, Int.reduceMod, Int.reduceDiv, Int.reduceToNat, Nat.reduceAdd, Nat.reduceLeDiff, List.length_cons, List.length_nil, not_false_eq_true, not_true_eq_false, ne_eq, or_false, false_or, or_self, false_and, and_false, or_true, true_or, ite_self, Int.add_sub_cancel, Int.sub_add_cancel, b_lc1, b_lc2, b_lc3, b_lc4, b_lc5, up_eq, up_ei, up_n1, up_n2, W32i, W8i, W16i, W64i, if_ps, if_ng, and_tr, fil_n1, fil_in, fil_out, le_tt, le_ff, lt_tt, lt_ff, eq_tt, eq_ff, M10, nk]
    | succ c ih =>
      intro i y hi lv
      have e1 := fun Q => x_coW h i (by omega) Q
      have e2 := fun Q => x_coV h i (by omega) Q
      have e3 := fun Q => x_isLive h.l h.w ((nt f (wi f (w0 f 1) i))) Q
      rw [zall]
      by_cases q : zlive L ((nt f (wi f (w0 f 1) i)))
      · simp only [if_pos q] at e3
        have lv' : ∀ j : Nat, j ≤ i → zlive L ((nt f (wi f (w0 f 1) j))) := fun j hj => by
          by_cases z : j = i
          · rw [z]; exact q
          · exact lv j (by omega)
        have b1 := x_thB1 h i (by omega) lv' Q i 0 (by omega)
        have b2 := x_thB2 h i (by omega) q lI Q (nc f (w0 f 0)).toNat 0 (by omega)
        rw [show ((0 : Nat) : Int) = 0 by rfl] at b1 b2
        have st : zG Cd 10 (Cd 10 83) [(11, 11), (0, (i : Int)), y] [] S Q = zG Cd 10 (Cd 10 128) [(11, 11), (0, (i : Int)), (0, 0)] [] S Q := by
          rw [L10_83]
          simp (disch := omega) only [bcd, true_and, and_true, and_self, if_true, if_false, ite_true, ite_false, reduceIte, Int.reduceEq, Int.reduceNe, Int.reduceLT, Int.reduceLE, Int.reduceAdd, Int.reduceSub, Int.reduceMul, Int.reduceNeg, Int.reduceMod, Int.reduceDiv, Int.reduceToNat, Nat.reduceAdd, Nat.reduceLeDiff, List.length_cons, List.length_nil, not_false_eq_true, not_true_eq_false, ne_eq, or_false, false_or, or_self, false_and, and_false, or_true, true_or, ite_self, Int.add_sub_cancel, Int.sub_add_cancel, b_lc1, b_lc2, b_lc3, b_lc4, b_lc5, up_eq, up_ei, up_n1, up_n2, W32i, W8i, W16i, W64i, if_ps, if_ng, and_tr, fil_n1, fil_in, fil_out, le_tt, le_ff, lt_tt, lt_ff, eq_tt, eq_ff, M10, M254, nk, k1, e1, e2, e3]
        have s2 : zG Cd 10 (Cd 10 154) [(11, 11), (0, (i : Int)), (0, (i : Int))] [] S Q = zG Cd 10 (Cd 10 156) [(11, 11), (0, (i : Int)), (0, 0)] [] S Q := by
          simp (disch := omega) only [bcd, true_and, and_true, and_self, if_true, if_false, ite_true, ite_false, reduceIte, Int.reduceEq, Int.reduceNe, Int.reduceLT, Int.reduceLE, Int.reduceAdd, Int.reduceSub, Int.reduceMul, Int.reduceNeg, Int.reduceMod, Int.reduceDiv, Int.reduceToNat, Nat.reduceAdd, Nat.reduceLeDiff, List.length_cons, List.length_nil, not_false_eq_true, not_true_eq_false, ne_eq, or_false, false_or, or_self, false_and, and_false, or_true, true_or, ite_self, Int.add_sub_cancel, Int.sub_add_cancel, b_lc1, b_lc2, b_lc3, b_lc4, b_lc5, up_eq, up_ei, up_n1, up_n2, W32i, W8i, W16i, W64i, if_ps, if_ng, and_tr, fil_n1, fil_in, fil_out, le_tt, le_ff, lt_tt, lt_ff, eq_tt, eq_ff, M10]
        have s3 : zG Cd 10 (Cd 10 185) [(11, 11), (0, (i : Int)), (0, nc f (w0 f 0))] [] S Q = zG Cd 10 (Cd 10 83) [(11, 11), (0, (i : Int) + 1), (0, nc f (w0 f 0))] [] S Q := by
          simp (disch := omega) only [bcd, true_and, and_true, and_self, if_true, if_false, ite_true, ite_false, reduceIte, Int.reduceEq, Int.reduceNe, Int.reduceLT, Int.reduceLE, Int.reduceAdd, Int.reduceSub, Int.reduceMul, Int.reduceNeg, Int.reduceMod, Int.reduceDiv, Int.reduceToNat, Nat.reduceAdd, Nat.reduceLeDiff, List.length_cons, List.length_nil, not_false_eq_true, not_true_eq_false, ne_eq, or_false, false_or, or_self, false_and, and_false, or_true, true_or, ite_self, Int.add_sub_cancel, Int.sub_add_cancel, b_lc1, b_lc2, b_lc3, b_lc4, b_lc5, up_eq, up_ei, up_n1, up_n2, W32i, W8i, W16i, W64i, if_ps, if_ng, and_tr, fil_n1, fil_in, fil_out, le_tt, le_ff, lt_tt, lt_ff, eq_tt, eq_ff, M10]
        have I := ih (i + 1) (0, nc f (w0 f 0)) (by omega) (fun j hj => lv' j (by omega))
        rw [show ((i + 1 : Nat) : Int) = (i : Int) + 1 by omega] at I
        rw [st, b1, s2, b2, s3, I]
        unfold thB
        rw [show decide (zlive L ((nt f (wi f (w0 f 1) i)))) = true from decide_eq_true q, Bool.true_and]
        cases zall (fun j => decide ((nt f (wi f (w0 f 1) j)) ≠ (nt f (wi f (w0 f 1) i)))) i 0 <;> cases zall (fun j => decide ((nt f (wi f (w0 f 0) j + 1)) ≠ (nt f (wi f (w0 f 1) i)))) (nc f (w0 f 0)).toNat 0 <;> simp [zb1]
      · simp only [if_neg q] at e3
        unfold thB
        rw [show decide (zlive L ((nt f (wi f (w0 f 1) i)))) = false from decide_eq_false q, Bool.false_and, Bool.false_and, zb1_f, L10_83]
        simp (disch := omega) only [bcd, true_and, and_true, and_self, if_true, if_false, ite_true, ite_false, reduceIte, Int.reduceEq, Int.reduceNe, Int.reduceLT, Int.reduceLE, Int.reduceAdd, Int.reduceSub, Int.reduceMul, Int.reduceNeg, Int.reduceMod, Int.reduceDiv, Int.reduceToNat, Nat.reduceAdd, Nat.reduceLeDiff, List.length_cons, List.length_nil, not_false_eq_true, not_true_eq_false, ne_eq, or_false, false_or, or_self, false_and, and_false, or_true, true_or, ite_self, Int.add_sub_cancel, Int.sub_add_cancel, b_lc1, b_lc2, b_lc3, b_lc4, b_lc5, up_eq, up_ei, up_n1, up_n2, W32i, W8i, W16i, W64i, if_ps, if_ng, and_tr, fil_n1, fil_in, fil_out, le_tt, le_ff, lt_tt, lt_ff, eq_tt, eq_ff, M10, M254, nk, k1, e1, e2, e3]
  have lA : ∀ (c i : Nat) (y : AV), (i : Int) + c = nc f (w0 f 0) → (∀ j : Nat, j < i → zlive L ((nt f (wi f (w0 f 0) j + 1)))) → zG Cd 10 (Cd 10 2) [(11, 11), (0, (i : Int)), y] [] S Q = Q S (0, zb1 (zall (thA L f) c i && zall (thB L f) (nc f (w0 f 1)).toNat 0)) := by
    intro c
    induction c with
    | zero =>
      intro i y hi lv
      have B := lB (fun j hj => lv j (by omega)) (nc f (w0 f 1)).toNat 0 y (by omega) (fun j hj => by omega)
      rw [show ((0 : Nat) : Int) = 0 by rfl] at B
      rw [zall, Bool.true_and, ← B, L10_2]
      simp (disch := omega) only [bcd, true_and, and_true, and_self, if_true, if_false, ite_true, ite_false, reduceIte, Int.reduceEq, Int.reduceNe, Int.reduceLT, Int.reduceLE, Int.reduceAdd, Int.reduceSub, Int.reduceMul, Int.reduceNeg, Int.reduceMod, Int.reduceDiv, Int.reduceToNat, Nat.reduceAdd, Nat.reduceLeDiff, List.length_cons, List.length_nil, not_false_eq_true, not_true_eq_false, ne_eq, or_false, false_or, or_self, false_and, and_false, or_true, true_or, ite_self, Int.add_sub_cancel, Int.sub_add_cancel, b_lc1, b_lc2, b_lc3, b_lc4, b_lc5, up_eq, up_ei, up_n1, up_n2, W32i, W8i, W16i, W64i, if_ps, if_ng, and_tr, fil_n1, fil_in, fil_out, le_tt, le_ff, lt_tt, lt_ff, eq_tt, eq_ff, M10, ni]
    | succ c ih =>
      intro i y hi lv
      have e1 := fun Q => x_inW h i (by omega) Q
      have e2 := fun Q => x_inV h i (by omega) Q
      have e3 := fun Q => x_isLive h.l h.w ((nt f (wi f (w0 f 0) i + 1))) Q
      have iw := h.t.iw i (by omega)
      rw [zall]
      by_cases q : zlive L ((nt f (wi f (w0 f 0) i + 1)))
      · simp only [if_pos q] at e3
        have lv' : ∀ j : Nat, j ≤ i → zlive L ((nt f (wi f (w0 f 0) j + 1))) := fun j hj => by
          by_cases z : j = i
          · rw [z]; exact q
          · exact lv j (by omega)
        have b1 := x_thA h i (by omega) lv' Q i 0 (by omega)
        rw [show ((0 : Nat) : Int) = 0 by rfl] at b1
        have st : zG Cd 10 (Cd 10 2) [(11, 11), (0, (i : Int)), y] [] S Q = zG Cd 10 (Cd 10 49) [(11, 11), (0, (i : Int)), (0, 0)] [] S Q := by
          rw [L10_2]
          simp (disch := omega) only [bcd, true_and, and_true, and_self, if_true, if_false, ite_true, ite_false, reduceIte, Int.reduceEq, Int.reduceNe, Int.reduceLT, Int.reduceLE, Int.reduceAdd, Int.reduceSub, Int.reduceMul, Int.reduceNeg, Int.reduceMod, Int.reduceDiv, Int.reduceToNat, Nat.reduceAdd, Nat.reduceLeDiff, List.length_cons, List.length_nil, not_false_eq_true, not_true_eq_false, ne_eq, or_false, false_or, or_self, false_and, and_false, or_true, true_or, ite_self, Int.add_sub_cancel, Int.sub_add_cancel, b_lc1, b_lc2, b_lc3, b_lc4, b_lc5, up_eq, up_ei, up_n1, up_n2, W32i, W8i, W16i, W64i, if_ps, if_ng, and_tr, fil_n1, fil_in, fil_out, le_tt, le_ff, lt_tt, lt_ff, eq_tt, eq_ff, M10, M254, ni, k0, e1, e2, e3]
        have s2 : zG Cd 10 (Cd 10 75) [(11, 11), (0, (i : Int)), (0, (i : Int))] [] S Q = zG Cd 10 (Cd 10 2) [(11, 11), (0, (i : Int) + 1), (0, (i : Int))] [] S Q := by
          simp (disch := omega) only [bcd, true_and, and_true, and_self, if_true, if_false, ite_true, ite_false, reduceIte, Int.reduceEq, Int.reduceNe, Int.reduceLT, Int.reduceLE, Int.reduceAdd, Int.reduceSub, Int.reduceMul, Int.reduceNeg, Int.reduceMod, Int.reduceDiv, Int.reduceToNat, Nat.reduceAdd, Nat.reduceLeDiff, List.length_cons, List.length_nil, not_false_eq_true, not_true_eq_false, ne_eq, or_false, false_or, or_self, false_and, and_false, or_true, true_or, ite_self, Int.add_sub_cancel, Int.sub_add_cancel, b_lc1, b_lc2, b_lc3, b_lc4, b_lc5, up_eq, up_ei, up_n1, up_n2, W32i, W8i, W16i, W64i, if_ps, if_ng, and_tr, fil_n1, fil_in, fil_out, le_tt, le_ff, lt_tt, lt_ff, eq_tt, eq_ff, M10]
        have I := ih (i + 1) (0, (i : Int)) (by omega) (fun j hj => lv' j (by omega))
        rw [show ((i + 1 : Nat) : Int) = (i : Int) + 1 by omega] at I
        rw [st, b1, s2, I]
        unfold thA
        rw [show decide (zlive L ((nt f (wi f (w0 f 0) i + 1)))) = true from decide_eq_true q, Bool.true_and]
        cases zall (fun j => decide ((nt f (wi f (w0 f 0) j + 1)) ≠ (nt f (wi f (w0 f 0) i + 1)))) i 0 <;> simp [zb1]
      · simp only [if_neg q] at e3
        unfold thA
        rw [show decide (zlive L ((nt f (wi f (w0 f 0) i + 1)))) = false from decide_eq_false q, Bool.false_and, Bool.false_and, Bool.false_and, zb1_f, L10_2]
        simp (disch := omega) only [bcd, true_and, and_true, and_self, if_true, if_false, ite_true, ite_false, reduceIte, Int.reduceEq, Int.reduceNe, Int.reduceLT, Int.reduceLE, Int.reduceAdd, Int.reduceSub, Int.reduceMul, Int.reduceNeg, Int.reduceMod, Int.reduceDiv, Int.reduceToNat, Nat.reduceAdd, Nat.reduceLeDiff, List.length_cons, List.length_nil, not_false_eq_true, not_true_eq_false, ne_eq, or_false, false_or, or_self, false_and, and_false, or_true, true_or, ite_self, Int.add_sub_cancel, Int.sub_add_cancel, b_lc1, b_lc2, b_lc3, b_lc4, b_lc5, up_eq, up_ei, up_n1, up_n2, W32i, W8i, W16i, W64i, if_ps, if_ng, and_tr, fil_n1, fil_in, fil_out, le_tt, le_ff, lt_tt, lt_ff, eq_tt, eq_ff, M10, M254, ni, k0, e1, e2, e3]
  have A := lA (nc f (w0 f 0)).toNat 0 (9, 0) (by omega) (fun j hj => by omega)
  rw [show ((0 : Nat) : Int) = 0 by rfl] at A
  unfold there
  rw [← A]
  simp (disch := omega) only [bcd, true_and, and_true, and_self, if_true, if_false, ite_true, ite_false, reduceIte, Int.reduceEq, Int.reduceNe, Int.reduceLT, Int.reduceLE, Int.reduceAdd, Int.reduceSub, Int.reduceMul, Int.reduceNeg, Int.reduceMod, Int.reduceDiv, Int.reduceToNat, Nat.reduceAdd, Nat.reduceLeDiff, List.length_cons, List.length_nil, not_false_eq_true, not_true_eq_false, ne_eq, or_false, false_or, or_self, false_and, and_false, or_true, true_or, ite_self, Int.add_sub_cancel, Int.sub_add_cancel, b_lc1, b_lc2, b_lc3, b_lc4, b_lc5, up_eq, up_ei, up_n1, up_n2, W32i, W8i, W16i, W64i, if_ps, if_ng, and_tr, fil_n1, fil_in, fil_out, le_tt, le_ff, lt_tt, lt_ff, eq_tt, eq_ff, M10]
