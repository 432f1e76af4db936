-- uses: 84
/-! going along two bags -/
def PO (n n' : Int) (P N P' N' : Int → Int) (i j : Int) : Prop := (0 ≤ i ∧ i ≤ n) ∧ (0 ≤ j ∧ j ≤ n') ∧ (∀ x y, 0 ≤ x → x < i → j ≤ y → y < n' → zltK (P x) (N x) (P' y) (N' y)) ∧ (∀ x y, i ≤ x → x < n → 0 ≤ y → y < j → zltK (P' y) (N' y) (P x) (N x))
theorem PO.mk1 {n n' : Int} {P N P' N' : Int → Int} {i j : Int} (i0 : 0 ≤ i ∧ i ≤ n) (j0 : 0 ≤ j ∧ j ≤ n') (ab : ∀ x y, 0 ≤ x → x < i → j ≤ y → y < n' → zltK (P x) (N x) (P' y) (N' y)) (ba : ∀ x y, i ≤ x → x < n → 0 ≤ y → y < j → zltK (P' y) (N' y) (P x) (N x)) : PO n n' P N P' N' i j := by unfold PO; exact ⟨i0, j0, ab, ba⟩
theorem PO.i0 {n n' : Int} {P N P' N' : Int → Int} {i j : Int} (h : PO n n' P N P' N' i j) : 0 ≤ i ∧ i ≤ n := by unfold PO at h; exact h.1
theorem PO.j0 {n n' : Int} {P N P' N' : Int → Int} {i j : Int} (h : PO n n' P N P' N' i j) : 0 ≤ j ∧ j ≤ n' := by unfold PO at h; exact h.2.1
theorem PO.ab {n n' : Int} {P N P' N' : Int → Int} {i j : Int} (h : PO n n' P N P' N' i j) : ∀ x y, 0 ≤ x → x < i → j ≤ y → y < n' → zltK (P x) (N x) (P' y) (N' y) := by unfold PO at h; exact h.2.2.1
theorem PO.ba {n n' : Int} {P N P' N' : Int → Int} {i j : Int} (h : PO n n' P N P' N' i j) : ∀ x y, i ≤ x → x < n → 0 ≤ y → y < j → zltK (P' y) (N' y) (P x) (N x) := by unfold PO at h; exact h.2.2.2
def pfr (S S' : Sto) : Prop := (∀ b, b ≠ 32 → S' b = S b) ∧ S' 32 0 = S 32 0 ∧ S' 32 1 = S 32 1
theorem pfr.rf (S : Sto) : pfr S S := ⟨fun _ _ => rfl, rfl, rfl⟩
theorem pfr.tr {S S' S'' : Sto} (h : pfr S S') (g : pfr S' S'') : pfr S S'' := ⟨fun b x => (g.1 b x).trans (h.1 b x), g.2.1.trans h.2.1, g.2.2.trans h.2.2⟩
theorem BG.pf {S S' : Sto} {r n : Int} {g : Int → Int → Int} (h : BG S r n g) (e : pfr S S') : BG S' r n g := by
  have hr := h.hr
  have e0 := e.1 r (by omega)
  have e1 := e.1 (r + 79) (by omega)
  have e2 := e.1 (r + 80) (by omega)
  have e3 := e.1 (r + 81) (by omega)
  obtain ⟨h_hr, h_n1, h_sz, h_ks, h_rp, h_nz⟩ := h
  apply BG.mk1 <;> (try rw [e0]) <;> (try rw [e1]) <;> (try rw [e2]) <;> (try rw [e3]) <;> assumption
def PA (S : Sto) (a b i j : Int) : Prop := (S 32 0 = a) ∧ (S 32 1 = b) ∧ (S 32 2 = i) ∧ (S 32 3 = j)
theorem PA.mk1 {S : Sto} {a b i j : Int} (pa : S 32 0 = a) (pb : S 32 1 = b) (pi : S 32 2 = i) (pj : S 32 3 = j) : PA S a b i j := by unfold PA; exact ⟨pa, pb, pi, pj⟩
theorem PA.pa {S : Sto} {a b i j : Int} (h : PA S a b i j) : S 32 0 = a := by unfold PA at h; exact h.1
theorem PA.pb {S : Sto} {a b i j : Int} (h : PA S a b i j) : S 32 1 = b := by unfold PA at h; exact h.2.1
theorem PA.pi {S : Sto} {a b i j : Int} (h : PA S a b i j) : S 32 2 = i := by unfold PA at h; exact h.2.2.1
theorem PA.pj {S : Sto} {a b i j : Int} (h : PA S a b i j) : S 32 3 = j := by unfold PA at h; exact h.2.2.2
def pst (S : Sto) (p m x y i j : Int) : Sto := up (up (up (up (up (up S 32 4 p) 32 5 m) 32 6 x) 32 7 y) 32 2 i) 32 3 j
theorem pst_fr (S : Sto) (p m x y i j : Int) : pfr S (pst S p m x y i j) := by
  unfold pst
  refine ⟨fun b hb => ?_, ?_, ?_⟩
  · simp (disch := omega) only [true_and, and_true, and_self, if_true, if_false, ite_true, ite_false, reduceIte, Int.reduceEq, Int.reduceNe, Int.reduceLT, Int.reduceLE, Int.reduceAdd, Int.reduceSub, Int.reduceMul, Int.reduceNeg, Int.reduceMod, Int.reduceDiv, Int.reduceToNat, Nat.reduceAdd, Nat.reduceLeDiff, List.length_cons, List.length_nil, not_false_eq_true, not_true_eq_false, ne_eq, or_false, false_or, or_self, false_and, and_false, or_true, true_or, ite_self, Int.add_sub_cancel, Int.sub_add_cancel, b_lc1, b_lc2, b_lc3, b_lc4, b_lc5, up_eq, up_ei, up_n1, up_n2, W32i, W8i, W16i, W64i, if_ps, if_ng, and_tr, fil_n1, fil_in, fil_out, up_fn]
  · simp (disch := omega) only [true_and, and_true, and_self, if_true, if_false, ite_true, ite_false, reduceIte, Int.reduceEq, Int.reduceNe, Int.reduceLT, Int.reduceLE, Int.reduceAdd, Int.reduceSub, Int.reduceMul, Int.reduceNeg, Int.reduceMod, Int.reduceDiv, Int.reduceToNat, Nat.reduceAdd, Nat.reduceLeDiff, List.length_cons, List.length_nil, not_false_eq_true, not_true_eq_false, ne_eq, or_false, false_or, or_self, false_and, and_false, or_true, true_or, ite_self, Int.add_sub_cancel, Int.sub_add_cancel, b_lc1, b_lc2, b_lc3, b_lc4, b_lc5, up_eq, up_ei, up_n1, up_n2, W32i, W8i, W16i, W64i, if_ps, if_ng, and_tr, fil_n1, fil_in, fil_out]
  · simp (disch := omega) only [true_and, and_true, and_self, if_true, if_false, ite_true, ite_false, reduceIte, Int.reduceEq, Int.reduceNe, Int.reduceLT, Int.reduceLE, Int.reduceAdd, Int.reduceSub, Int.reduceMul, Int.reduceNeg, Int.reduceMod, Int.reduceDiv, Int.reduceToNat, Nat.reduceAdd, Nat.reduceLeDiff, List.length_cons, List.length_nil, not_false_eq_true, not_true_eq_false, ne_eq, or_false, false_or, or_self, false_and, and_false, or_true, true_or, ite_self, Int.add_sub_cancel, Int.sub_add_cancel, b_lc1, b_lc2, b_lc3, b_lc4, b_lc5, up_eq, up_ei, up_n1, up_n2, W32i, W8i, W16i, W64i, if_ps, if_ng, and_tr, fil_n1, fil_in, fil_out]
theorem p_next0 {S : Sto} {a b n n' : Int} {g g' : Int → Int → Int} (h : BG S a n g) (h' : BG S b n' g') (p : PA S a b n n') (Q : ZQ) : zCall Cd 235 2 [(32, 32)] S Q = Q S (0, 0) := by
  have h1 := h.hr
  have h2 := h'.hr
  have h3 := h.sz
  have h4 := h'.sz
  obtain ⟨p_pa, p_pb, p_pi, p_pj⟩ := p
  simp (disch := omega) only [bcd, true_and, and_true, and_self, if_true, if_false, ite_true, ite_false, reduceIte, Int.reduceEq, Int.reduceNe, Int.reduceLT, Int.reduceLE, Int.reduceAdd, Int.reduceSub, Int.reduceMul, Int.reduceNeg, Int.reduceMod, Int.reduceDiv, Int.reduceToNat, Nat.reduceAdd, Nat.reduceLeDiff, List.length_cons, List.length_nil, not_false_eq_true, not_true_eq_false, ne_eq, or_false, false_or, or_self, false_and, and_false, or_true, true_or, ite_self, Int.add_sub_cancel, Int.sub_add_cancel, b_lc1, b_lc2, b_lc3, b_lc4, b_lc5, up_eq, up_ei, up_n1, up_n2, W32i, W8i, W16i, W64i, if_ps, if_ng, and_tr, fil_n1, fil_in, fil_out, le_tt, le_ff, lt_tt, lt_ff, eq_tt, eq_ff, M235, p_pa, p_pb, p_pi, p_pj, h3, h4]
theorem p_nextB {S : Sto} {a b n n' i j : Int} {g g' : Int → Int → Int} (h : BG S a n g) (h' : BG S b n' g') (p : PA S a b i j) (i0 : 0 ≤ i ∧ i ≤ n) (j0 : 0 ≤ j ∧ j < n') (c : i = n ∨ zltK (S (b + 79) j) (S (b + 80) j) (S (a + 79) i) (S (a + 80) i)) (Q : ZQ) : zCall Cd 235 2 [(32, 32)] S Q = Q (pst S (S (b + 79) j) (S (b + 80) j) 0 (S (b + 81) j) i (j + 1)) (0, 1) := by
  have h1 := h.hr
  have h2 := h'.hr
  have h3 := h.sz
  have h4 := h'.sz
  have h5 := h.n1
  have h6 := h'.n1
  obtain ⟨p_pa, p_pb, p_pi, p_pj⟩ := p
  unfold pst
  by_cases q : i = n
  · (iterate 14 (try (simp only [M235]; simp (disch := omega) only [bcd, true_and, and_true, and_self, if_true, if_false, ite_true, ite_false, reduceIte, Int.reduceEq, Int.reduceNe, Int.reduceLT, Int.reduceLE, Int.reduceAdd, Int.reduceSub, Int.reduceMul, Int.reduceNeg, Int.reduceMod, Int.reduceDiv, Int.reduceToNat, Nat.reduceAdd, Nat.reduceLeDiff, List.length_cons, List.length_nil, not_false_eq_true, not_true_eq_false, ne_eq, or_false, false_or, or_self, false_and, and_false, or_true, true_or, ite_self, Int.add_sub_cancel, Int.sub_add_cancel, b_lc1, b_lc2, b_lc3, b_lc4, b_lc5, up_eq, up_ei, up_n1, up_n2, W32i, W8i, W16i, W64i, if_ps, if_ng, and_tr, fil_n1, fil_in, fil_out, le_tt, le_ff, lt_tt, lt_ff, eq_tt, eq_ff, p_pa, p_pb, p_pi, p_pj, h3, h4, Int.add_zero])); try iterate 14 (try (simp only [M235]; simp (disch := omega) only [bcd, true_and, and_true, and_self, if_true, if_false, ite_true, ite_false, reduceIte, Int.reduceEq, Int.reduceNe, Int.reduceLT, Int.reduceLE, Int.reduceAdd, Int.reduceSub, Int.reduceMul, Int.reduceNeg, Int.reduceMod, Int.reduceDiv, Int.reduceToNat, Nat.reduceAdd, Nat.reduceLeDiff, List.length_cons, List.length_nil, not_false_eq_true, not_true_eq_false, ne_eq, or_false, false_or, or_self, false_and, and_false, or_true, true_or, ite_self, Int.add_sub_cancel, Int.sub_add_cancel, b_lc1, b_lc2, b_lc3, b_lc4, b_lc5, up_eq, up_ei, up_n1, up_n2, W32i, W8i, W16i, W64i, if_ps, if_ng, and_tr, fil_n1, fil_in, fil_out, le_tt, le_ff, lt_tt, lt_ff, eq_tt, eq_ff, p_pa, p_pb, p_pi, p_pj, h3, h4, Int.add_zero])))
  · have c := (gK_neg _ _ _ _).mpr (c.resolve_left q)
    have od := fun Q => b_order (S := S) h1 (S (b + 79) j) (S (b + 80) j) i i0.1 (by omega) Q
    (iterate 14 (try (simp only [M235]; simp (disch := omega) only [bcd, true_and, and_true, and_self, if_true, if_false, ite_true, ite_false, reduceIte, Int.reduceEq, Int.reduceNe, Int.reduceLT, Int.reduceLE, Int.reduceAdd, Int.reduceSub, Int.reduceMul, Int.reduceNeg, Int.reduceMod, Int.reduceDiv, Int.reduceToNat, Nat.reduceAdd, Nat.reduceLeDiff, List.length_cons, List.length_nil, not_false_eq_true, not_true_eq_false, ne_eq, or_false, false_or, or_self, false_and, and_false, or_true, true_or, ite_self, Int.add_sub_cancel, Int.sub_add_cancel, b_lc1, b_lc2, b_lc3, b_lc4, b_lc5, up_eq, up_ei, up_n1, up_n2, W32i, W8i, W16i, W64i, if_ps, if_ng, and_tr, fil_n1, fil_in, fil_out, le_tt, le_ff, lt_tt, lt_ff, eq_tt, eq_ff, p_pa, p_pb, p_pi, p_pj, h3, h4, od, Int.add_zero])); try iterate 14 (try (simp only [M235]; simp (disch := omega) only [bcd, true_and, and_true, and_self, if_true, if_false, ite_true, ite_false, reduceIte, Int.reduceEq, Int.reduceNe, Int.reduceLT, Int.reduceLE, Int.reduceAdd, Int.reduceSub, Int.reduceMul, Int.reduceNeg, Int.reduceMod, Int.reduceDiv, Int.reduceToNat, Nat.reduceAdd, Nat.reduceLeDiff, List.length_cons, List.length_nil, not_false_eq_true, not_true_eq_false, ne_eq, or_false, false_or, or_self, false_and, and_false, or_true, true_or, ite_self, Int.add_sub_cancel, Int.sub_add_cancel, b_lc1, b_lc2, b_lc3, b_lc4, b_lc5, up_eq, up_ei, up_n1, up_n2, W32i, W8i, W16i, W64i, if_ps, if_ng, and_tr, fil_n1, fil_in, fil_out, le_tt, le_ff, lt_tt, lt_ff, eq_tt, eq_ff, p_pa, p_pb, p_pi, p_pj, h3, h4, od, Int.add_zero])))
theorem p_nextA {S : Sto} {a b n n' i j : Int} {g g' : Int → Int → Int} (h : BG S a n g) (h' : BG S b n' g') (p : PA S a b i j) (i0 : 0 ≤ i ∧ i < n) (j0 : 0 ≤ j ∧ j ≤ n') (c : j = n' ∨ zltK (S (a + 79) i) (S (a + 80) i) (S (b + 79) j) (S (b + 80) j)) (Q : ZQ) : zCall Cd 235 2 [(32, 32)] S Q = Q (pst S (S (a + 79) i) (S (a + 80) i) (S (a + 81) i) 0 (i + 1) j) (0, 1) := by
  have h1 := h.hr
  have h2 := h'.hr
  have h3 := h.sz
  have h4 := h'.sz
  have h5 := h.n1
  have h6 := h'.n1
  obtain ⟨p_pa, p_pb, p_pi, p_pj⟩ := p
  unfold pst
  by_cases q : j = n'
  · (iterate 14 (try (simp only [M235]; simp (disch := omega) only [bcd, true_and, and_true, and_self, if_true, if_false, ite_true, ite_false, reduceIte, Int.reduceEq, Int.reduceNe, Int.reduceLT, Int.reduceLE, Int.reduceAdd, Int.reduceSub, Int.reduceMul, Int.reduceNeg, Int.reduceMod, Int.reduceDiv, Int.reduceToNat, Nat.reduceAdd, Nat.reduceLeDiff, List.length_cons, List.length_nil, not_false_eq_true, not_true_eq_false, ne_eq, or_false, false_or, or_self, false_and, and_false, or_true, true_or, ite_self, Int.add_sub_cancel, Int.sub_add_cancel, b_lc1, b_lc2, b_lc3, b_lc4, b_lc5, up_eq, up_ei, up_n1, up_n2, W32i, W8i, W16i, W64i, if_ps, if_ng, and_tr, fil_n1, fil_in, fil_out, le_tt, le_ff, lt_tt, lt_ff, eq_tt, eq_ff, p_pa, p_pb, p_pi, p_pj, h3, h4, Int.add_zero])); try iterate 14 (try (simp only [M235]; simp (disch := omega) only [bcd, true_and, and_true, and_self, if_true, if_false, ite_true, ite_false, reduceIte, Int.reduceEq, Int.reduceNe, Int.reduceLT, Int.reduceLE, Int.reduceAdd, Int.reduceSub, Int.reduceMul, Int.reduceNeg, Int.reduceMod, Int.reduceDiv, Int.reduceToNat, Nat.reduceAdd, Nat.reduceLeDiff, List.length_cons, List.length_nil, not_false_eq_true, not_true_eq_false, ne_eq, or_false, false_or, or_self, false_and, and_false, or_true, true_or, ite_self, Int.add_sub_cancel, Int.sub_add_cancel, b_lc1, b_lc2, b_lc3, b_lc4, b_lc5, up_eq, up_ei, up_n1, up_n2, W32i, W8i, W16i, W64i, if_ps, if_ng, and_tr, fil_n1, fil_in, fil_out, le_tt, le_ff, lt_tt, lt_ff, eq_tt, eq_ff, p_pa, p_pb, p_pi, p_pj, h3, h4, Int.add_zero])))
  · have c := (gK_pos _ _ _ _).mpr (c.resolve_left q)
    have od := fun Q => b_order (S := S) h1 (S (b + 79) j) (S (b + 80) j) i i0.1 (by omega) Q
    (iterate 14 (try (simp only [M235]; simp (disch := omega) only [bcd, true_and, and_true, and_self, if_true, if_false, ite_true, ite_false, reduceIte, Int.reduceEq, Int.reduceNe, Int.reduceLT, Int.reduceLE, Int.reduceAdd, Int.reduceSub, Int.reduceMul, Int.reduceNeg, Int.reduceMod, Int.reduceDiv, Int.reduceToNat, Nat.reduceAdd, Nat.reduceLeDiff, List.length_cons, List.length_nil, not_false_eq_true, not_true_eq_false, ne_eq, or_false, false_or, or_self, false_and, and_false, or_true, true_or, ite_self, Int.add_sub_cancel, Int.sub_add_cancel, b_lc1, b_lc2, b_lc3, b_lc4, b_lc5, up_eq, up_ei, up_n1, up_n2, W32i, W8i, W16i, W64i, if_ps, if_ng, and_tr, fil_n1, fil_in, fil_out, le_tt, le_ff, lt_tt, lt_ff, eq_tt, eq_ff, p_pa, p_pb, p_pi, p_pj, h3, h4, od, Int.add_zero])); try iterate 14 (try (simp only [M235]; simp (disch := omega) only [bcd, true_and, and_true, and_self, if_true, if_false, ite_true, ite_false, reduceIte, Int.reduceEq, Int.reduceNe, Int.reduceLT, Int.reduceLE, Int.reduceAdd, Int.reduceSub, Int.reduceMul, Int.reduceNeg, Int.reduceMod, Int.reduceDiv, Int.reduceToNat, Nat.reduceAdd, Nat.reduceLeDiff, List.length_cons, List.length_nil, not_false_eq_true, not_true_eq_false, ne_eq, or_false, false_or, or_self, false_and, and_false, or_true, true_or, ite_self, Int.add_sub_cancel, Int.sub_add_cancel, b_lc1, b_lc2, b_lc3, b_lc4, b_lc5, up_eq, up_ei, up_n1, up_n2, W32i, W8i, W16i, W64i, if_ps, if_ng, and_tr, fil_n1, fil_in, fil_out, le_tt, le_ff, lt_tt, lt_ff, eq_tt, eq_ff, p_pa, p_pb, p_pi, p_pj, h3, h4, od, Int.add_zero])))
theorem p_nextC {S : Sto} {a b n n' i j : Int} {g g' : Int → Int → Int} (h : BG S a n g) (h' : BG S b n' g') (p : PA S a b i j) (i0 : 0 ≤ i ∧ i < n) (j0 : 0 ≤ j ∧ j < n') (c : S (a + 79) i = S (b + 79) j ∧ S (a + 80) i = S (b + 80) j) (Q : ZQ) : zCall Cd 235 2 [(32, 32)] S Q = Q (pst S (S (a + 79) i) (S (a + 80) i) (S (a + 81) i) (S (b + 81) j) (i + 1) (j + 1)) (0, 1) := by
  have h1 := h.hr
  have h2 := h'.hr
  have h3 := h.sz
  have h4 := h'.sz
  have h5 := h.n1
  have h6 := h'.n1
  have c := (gK_0 (h'.ks.na j j0.1 j0.2) (h.ks.na i i0.1 i0.2)).mpr c
  have od := fun Q => b_order (S := S) h1 (S (b + 79) j) (S (b + 80) j) i i0.1 (by omega) Q
  obtain ⟨p_pa, p_pb, p_pi, p_pj⟩ := p
  unfold pst
  (iterate 14 (try (simp only [M235]; simp (disch := omega) only [bcd, true_and, and_true, and_self, if_true, if_false, ite_true, ite_false, reduceIte, Int.reduceEq, Int.reduceNe, Int.reduceLT, Int.reduceLE, Int.reduceAdd, Int.reduceSub, Int.reduceMul, Int.reduceNeg, Int.reduceMod, Int.reduceDiv, Int.reduceToNat, Nat.reduceAdd, Nat.reduceLeDiff, List.length_cons, List.length_nil, not_false_eq_true, not_true_eq_false, ne_eq, or_false, false_or, or_self, false_and, and_false, or_true, true_or, ite_self, Int.add_sub_cancel, Int.sub_add_cancel, b_lc1, b_lc2, b_lc3, b_lc4, b_lc5, up_eq, up_ei, up_n1, up_n2, W32i, W8i, W16i, W64i, if_ps, if_ng, and_tr, fil_n1, fil_in, fil_out, le_tt, le_ff, lt_tt, lt_ff, eq_tt, eq_ff, p_pa, p_pb, p_pi, p_pj, h3, h4, od, c, Int.add_zero])); try iterate 14 (try (simp only [M235]; simp (disch := omega) only [bcd, true_and, and_true, and_self, if_true, if_false, ite_true, ite_false, reduceIte, Int.reduceEq, Int.reduceNe, Int.reduceLT, Int.reduceLE, Int.reduceAdd, Int.reduceSub, Int.reduceMul, Int.reduceNeg, Int.reduceMod, Int.reduceDiv, Int.reduceToNat, Nat.reduceAdd, Nat.reduceLeDiff, List.length_cons, List.length_nil, not_false_eq_true, not_true_eq_false, ne_eq, or_false, false_or, or_self, false_and, and_false, or_true, true_or, ite_self, Int.add_sub_cancel, Int.sub_add_cancel, b_lc1, b_lc2, b_lc3, b_lc4, b_lc5, up_eq, up_ei, up_n1, up_n2, W32i, W8i, W16i, W64i, if_ps, if_ng, and_tr, fil_n1, fil_in, fil_out, le_tt, le_ff, lt_tt, lt_ff, eq_tt, eq_ff, p_pa, p_pb, p_pi, p_pj, h3, h4, od, c, Int.add_zero])))
/-- one step along two bags: the next kind of either, with both amounts -/
theorem p_step {S : Sto} {a b n n' i j : Int} {g g' : Int → Int → Int} (h : BG S a n g) (h' : BG S b n' g') (p : PA S a b i j) (o : PO n n' (S (a + 79)) (S (a + 80)) (S (b + 79)) (S (b + 80)) i j) (c : i < n ∨ j < n') : ∃ p m i' j', zR 235 2 [(32, 32)] S (pst S p m (g p m) (g' p m) i' j') (0, 1) ∧ PO n n' (S (a + 79)) (S (a + 80)) (S (b + 79)) (S (b + 80)) i' j' ∧ i + j < i' + j' ∧ i ≤ i' ∧ i' ≤ i + 1 ∧ j ≤ j' ∧ j' ≤ j + 1 ∧ (i < i' → S (a + 79) i = p ∧ S (a + 80) i = m) ∧ (j < j' → S (b + 79) j = p ∧ S (b + 80) j = m) := by
  have i0 := o.i0
  have j0 := o.j0
  have B : ∀ (_ : j < n') (c : i = n ∨ zltK (S (b + 79) j) (S (b + 80) j) (S (a + 79) i) (S (a + 80) i)), ∃ p m i' j', zR 235 2 [(32, 32)] S (pst S p m (g p m) (g' p m) i' j') (0, 1) ∧ PO n n' (S (a + 79)) (S (a + 80)) (S (b + 79)) (S (b + 80)) i' j' ∧ i + j < i' + j' ∧ i ≤ i' ∧ i' ≤ i + 1 ∧ j ≤ j' ∧ j' ≤ j + 1 ∧ (i < i' → S (a + 79) i = p ∧ S (a + 80) i = m) ∧ (j < j' → S (b + 79) j = p ∧ S (b + 80) j = m) := by
    intro jn c
    have lt : ∀ x, i ≤ x → x < n → zltK (S (b + 79) j) (S (b + 80) j) (S (a + 79) x) (S (a + 80) x) := by
      intro x x1 x2
      rcases c with c | c
      · omega
      · by_cases q : x = i
        · rw [q]; exact c
        · exact zltK_tr c (h.ks.inc i x i0.1 (by omega) x2)
    have z : g (S (b + 79) j) (S (b + 80) j) = 0 := by
      apply h.rp.no1
      intro x x0 x1 e
      by_cases q : x < i
      · have := o.ab x j x0 q (by omega) jn
        rw [e.1, e.2] at this
        exact zltK_ir this
      · have := lt x (by omega) x1
        rw [e.1, e.2] at this
        exact zltK_ir this
    refine ⟨S (b + 79) j, S (b + 80) j, i, j + 1, fun Q => ?_, ?_, by omega, by omega, by omega, by omega, by omega, fun x => by omega, fun _ => ⟨rfl, rfl⟩⟩
    · rw [z, h'.rp.at1 j j0.1 jn]
      exact p_nextB h h' p i0 ⟨j0.1, jn⟩ c Q
    · apply PO.mk1
      case i0 => exact i0
      case j0 => omega
      case ab => intro x y x0 x1 y0 y1; exact o.ab x y x0 x1 (by omega) y1
      case ba =>
        intro x y x0 x1 y0 y1
        by_cases q : y = j
        · rw [q]; exact lt x x0 x1
        · exact o.ba x y x0 x1 y0 (by omega)
  have A : ∀ (_ : i < n) (c : j = n' ∨ zltK (S (a + 79) i) (S (a + 80) i) (S (b + 79) j) (S (b + 80) j)), ∃ p m i' j', zR 235 2 [(32, 32)] S (pst S p m (g p m) (g' p m) i' j') (0, 1) ∧ PO n n' (S (a + 79)) (S (a + 80)) (S (b + 79)) (S (b + 80)) i' j' ∧ i + j < i' + j' ∧ i ≤ i' ∧ i' ≤ i + 1 ∧ j ≤ j' ∧ j' ≤ j + 1 ∧ (i < i' → S (a + 79) i = p ∧ S (a + 80) i = m) ∧ (j < j' → S (b + 79) j = p ∧ S (b + 80) j = m) := by
    intro jn c
    have lt : ∀ x, j ≤ x → x < n' → zltK (S (a + 79) i) (S (a + 80) i) (S (b + 79) x) (S (b + 80) x) := by
      intro x x1 x2
      rcases c with c | c
      · omega
      · by_cases q : x = j
        · rw [q]; exact c
        · exact zltK_tr c (h'.ks.inc j x j0.1 (by omega) x2)
    have z : g' (S (a + 79) i) (S (a + 80) i) = 0 := by
      apply h'.rp.no1
      intro x x0 x1 e
      by_cases q : x < j
      · have := o.ba i x (by omega) jn x0 q
        rw [e.1, e.2] at this
        exact zltK_ir this
      · have := lt x (by omega) x1
        rw [e.1, e.2] at this
        exact zltK_ir this
    refine ⟨S (a + 79) i, S (a + 80) i, i + 1, j, fun Q => ?_, ?_, by omega, by omega, by omega, by omega, by omega, fun _ => ⟨rfl, rfl⟩, fun x => by omega⟩
    · rw [z, h.rp.at1 i i0.1 jn]
      exact p_nextA h h' p ⟨i0.1, jn⟩ j0 c Q
    · apply PO.mk1
      case i0 => omega
      case j0 => exact j0
      case ba => intro x y x0 x1 y0 y1; exact o.ba x y (by omega) x1 y0 y1
      case ab =>
        intro x y x0 x1 y0 y1
        by_cases q : x = i
        · rw [q]; exact lt y y0 y1
        · exact o.ab x y x0 (by omega) y0 y1
  by_cases q : i < n
  · by_cases r : j < n'
    · rcases zltK_3 (a := S (a + 79) i) (b := S (a + 80) i) (c := S (b + 79) j) (d := S (b + 80) j) (h.ks.na i i0.1 q) (h'.ks.na j j0.1 r) with x | x | x
      · exact A q (Or.inr x)
      · refine ⟨S (a + 79) i, S (a + 80) i, i + 1, j + 1, fun Q => ?_, ?_, by omega, by omega, by omega, by omega, by omega, fun _ => ⟨rfl, rfl⟩, fun _ => ⟨x.1.symm, x.2.symm⟩⟩
        · have e := h'.rp.at1 j j0.1 r
          rw [← x.1, ← x.2] at e
          rw [h.rp.at1 i i0.1 q, e]
          exact p_nextC h h' p ⟨i0.1, q⟩ ⟨j0.1, r⟩ x Q
        · apply PO.mk1
          case i0 => omega
          case j0 => omega
          case ab =>
            intro u y x0 x1 y0 y1
            have e := h'.ks.inc j y j0.1 (by omega) y1
            rw [← x.1, ← x.2] at e
            by_cases w : u = i
            · rw [w]; exact e
            · exact zltK_tr (h.ks.inc u i x0 (by omega) q) e
          case ba =>
            intro u y x0 x1 y0 y1
            have e := h.ks.inc i u i0.1 (by omega) x1
            rw [x.1, x.2] at e
            by_cases w : y = j
            · rw [w]; exact e
            · exact zltK_tr (h'.ks.inc y j y0 (by omega) r) e
      · exact B r (Or.inr x)
    · have jn : j = n' := by clear A B; omega
      exact A q (Or.inl jn)
  · have jn : j < n' := by clear A B; omega
    have jn2 : i = n := by clear A B; omega
    exact B jn (Or.inl jn2)
