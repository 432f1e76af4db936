-- uses: 64
/-! asking nodes -/
abbrev cM (f : F) (n t c : Int) : Prop := nf f n = 0 ∧ nt f n = t ∧ nc f n = c
abbrev cL (f : F) (n a b : Int) : Prop := nf f n = 2 ∧ a ≤ nc f n ∧ nc f n ≤ b
abbrev cI (f : F) (n a b : Int) : Prop := nf f n = 3 ∧ a ≤ nt f n ∧ nt f n ≤ b
/-- X's row, M's rows: the data of the tape -/
def XD (S : Sto) (f : F) : Prop := (fval 1 f) ∧ (fsize f ≤ 200) ∧ (∀ i, 0 ≤ i → i < fsize f → S 98 i = zxk (nf f i)) ∧ (∀ i, 0 ≤ i → i < fsize f → S 99 i = (if nf f i = 3 then nt f i else nc f i)) ∧ (∀ i, 0 ≤ i → i < fsize f → S 100 i = (if nf f i = 0 then nt f i else 0)) ∧ (∀ i, 0 ≤ i → i < fsize f → S 101 i = ns f i)
theorem XD.mk1 {S : Sto} {f : F} (v : fval 1 f) (sz : fsize f ≤ 200) (kd : ∀ i, 0 ≤ i → i < fsize f → S 98 i = zxk (nf f i)) (va : ∀ i, 0 ≤ i → i < fsize f → S 99 i = (if nf f i = 3 then nt f i else nc f i)) (nu : ∀ i, 0 ≤ i → i < fsize f → S 100 i = (if nf f i = 0 then nt f i else 0)) (ss : ∀ i, 0 ≤ i → i < fsize f → S 101 i = ns f i) : XD S f := by unfold XD; exact ⟨v, sz, kd, va, nu, ss⟩
theorem XD.v {S : Sto} {f : F} (h : XD S f) : fval 1 f := by unfold XD at h; exact h.1
theorem XD.sz {S : Sto} {f : F} (h : XD S f) : fsize f ≤ 200 := by unfold XD at h; exact h.2.1
theorem XD.kd {S : Sto} {f : F} (h : XD S f) : ∀ i, 0 ≤ i → i < fsize f → S 98 i = zxk (nf f i) := by unfold XD at h; exact h.2.2.1
theorem XD.va {S : Sto} {f : F} (h : XD S f) : ∀ i, 0 ≤ i → i < fsize f → S 99 i = (if nf f i = 3 then nt f i else nc f i) := by unfold XD at h; exact h.2.2.2.1
theorem XD.nu {S : Sto} {f : F} (h : XD S f) : ∀ i, 0 ≤ i → i < fsize f → S 100 i = (if nf f i = 0 then nt f i else 0) := by unfold XD at h; exact h.2.2.2.2.1
theorem XD.ss {S : Sto} {f : F} (h : XD S f) : ∀ i, 0 ≤ i → i < fsize f → S 101 i = ns f i := by unfold XD at h; exact h.2.2.2.2.2
def MD (S : Sto) (f : F) : Prop := (fval 1 f) ∧ (fsize f ≤ 200) ∧ (∀ i, 0 ≤ i → i < fsize f → S 134 i = nf f i) ∧ (∀ i, 0 ≤ i → i < fsize f → S 135 i = nt f i) ∧ (∀ i, 0 ≤ i → i < fsize f → S 136 i = nc f i) ∧ (∀ i, 0 ≤ i → i < fsize f → S 137 i = ns f i)
theorem MD.mk1 {S : Sto} {f : F} (v : fval 1 f) (sz : fsize f ≤ 200) (fm : ∀ i, 0 ≤ i → i < fsize f → S 134 i = nf f i) (tg : ∀ i, 0 ≤ i → i < fsize f → S 135 i = nt f i) (ct : ∀ i, 0 ≤ i → i < fsize f → S 136 i = nc f i) (wh : ∀ i, 0 ≤ i → i < fsize f → S 137 i = ns f i) : MD S f := by unfold MD; exact ⟨v, sz, fm, tg, ct, wh⟩
theorem MD.v {S : Sto} {f : F} (h : MD S f) : fval 1 f := by unfold MD at h; exact h.1
theorem MD.sz {S : Sto} {f : F} (h : MD S f) : fsize f ≤ 200 := by unfold MD at h; exact h.2.1
theorem MD.fm {S : Sto} {f : F} (h : MD S f) : ∀ i, 0 ≤ i → i < fsize f → S 134 i = nf f i := by unfold MD at h; exact h.2.2.1
theorem MD.tg {S : Sto} {f : F} (h : MD S f) : ∀ i, 0 ≤ i → i < fsize f → S 135 i = nt f i := by unfold MD at h; exact h.2.2.2.1
theorem MD.ct {S : Sto} {f : F} (h : MD S f) : ∀ i, 0 ≤ i → i < fsize f → S 136 i = nc f i := by unfold MD at h; exact h.2.2.2.2.1
theorem MD.wh {S : Sto} {f : F} (h : MD S f) : ∀ i, 0 ≤ i → i < fsize f → S 137 i = ns f i := by unfold MD at h; exact h.2.2.2.2.2
theorem zxk_6 {x : Int} (h : 0 ≤ x ∧ x ≤ 4) : (zxk x = 6) = (x = 0) ∧ (zxk x = 4) = (x = 2) ∧ (zxk x = 0) = (x = 3) ∧ (zxk x = 5) = (x = 1) ∧ (zxk x = 2) = (x = 4) := by
  have z : x = 0 ∨ x = 1 ∨ x = 2 ∨ x = 3 ∨ x = 4 := by omega
  rcases z with rfl | rfl | rfl | rfl | rfl <;> refine ⟨?_, ?_, ?_, ?_, ?_⟩ <;> decide
theorem x_isMade {S : Sto} {f : F} (h : XD S f) (n t c : Int) (n0 : 0 ≤ n) (n1 : n < fsize f) (Q : ZQ) : zCall Cd 238 4 [(33, 33), (0, n), (0, t), (0, c)] S Q = Q S (0, if cM f n t c then 1 else 0) := by
  have w := nW_of f 1 n h.v n0 n1
  have k := zxk_6 w.f0
  have e1 := h.kd n n0 n1
  have e2 := h.va n n0 n1
  have e3 := h.nu n n0 n1
  have sz := h.sz
  unfold cM
  by_cases a : nf f n = 0
  · rw [if_neg (by omega)] at e2
    rw [if_pos a] at e3
    have e1' : S 98 n = 6 := by rw [e1]; exact k.1.mpr a
    by_cases b : nt f n = t
    · by_cases d : nc f n = c <;> simp (disch := omega) only [bcd, true_and, and_true, and_self, if_true, if_false, ite_true, ite_false, reduceIte, Int.reduceEq, Int.reduceNe, Int.reduceLT, Int.reduceLE, Int.reduceAdd, Int.reduceSub, Int.reduceMul, Int.reduceNeg, Int.reduceMod, Int.reduceDiv, Int.reduceToNat, Nat.reduceAdd, Nat.reduceLeDiff, List.length_cons, List.length_nil, not_false_eq_true, not_true_eq_false, ne_eq, or_false, false_or, or_self, false_and, and_false, or_true, true_or, ite_self, Int.add_sub_cancel, Int.sub_add_cancel, b_lc1, b_lc2, b_lc3, b_lc4, b_lc5, up_eq, up_ei, up_n1, up_n2, W32i, W8i, W16i, W64i, if_ps, if_ng, and_tr, fil_n1, fil_in, fil_out, le_tt, le_ff, lt_tt, lt_ff, eq_tt, eq_ff, M238, e1', e2, e3, a, b, d]
    · simp (disch := omega) only [bcd, true_and, and_true, and_self, if_true, if_false, ite_true, ite_false, reduceIte, Int.reduceEq, Int.reduceNe, Int.reduceLT, Int.reduceLE, Int.reduceAdd, Int.reduceSub, Int.reduceMul, Int.reduceNeg, Int.reduceMod, Int.reduceDiv, Int.reduceToNat, Nat.reduceAdd, Nat.reduceLeDiff, List.length_cons, List.length_nil, not_false_eq_true, not_true_eq_false, ne_eq, or_false, false_or, or_self, false_and, and_false, or_true, true_or, ite_self, Int.add_sub_cancel, Int.sub_add_cancel, b_lc1, b_lc2, b_lc3, b_lc4, b_lc5, up_eq, up_ei, up_n1, up_n2, W32i, W8i, W16i, W64i, if_ps, if_ng, and_tr, fil_n1, fil_in, fil_out, le_tt, le_ff, lt_tt, lt_ff, eq_tt, eq_ff, M238, e1', e2, e3, a, b]
  · have e1' : ¬ S 98 n = 6 := by rw [e1, k.1]; exact a
    simp (disch := omega) only [bcd, true_and, and_true, and_self, if_true, if_false, ite_true, ite_false, reduceIte, Int.reduceEq, Int.reduceNe, Int.reduceLT, Int.reduceLE, Int.reduceAdd, Int.reduceSub, Int.reduceMul, Int.reduceNeg, Int.reduceMod, Int.reduceDiv, Int.reduceToNat, Nat.reduceAdd, Nat.reduceLeDiff, List.length_cons, List.length_nil, not_false_eq_true, not_true_eq_false, ne_eq, or_false, false_or, or_self, false_and, and_false, or_true, true_or, ite_self, Int.add_sub_cancel, Int.sub_add_cancel, b_lc1, b_lc2, b_lc3, b_lc4, b_lc5, up_eq, up_ei, up_n1, up_n2, W32i, W8i, W16i, W64i, if_ps, if_ng, and_tr, fil_n1, fil_in, fil_out, le_tt, le_ff, lt_tt, lt_ff, eq_tt, eq_ff, M238, e1', a]
theorem x_isList {S : Sto} {f : F} (h : XD S f) (n a b : Int) (n0 : 0 ≤ n) (n1 : n < fsize f) (Q : ZQ) : zCall Cd 241 4 [(33, 33), (0, n), (0, a), (0, b)] S Q = Q S (0, if cL f n a b then 1 else 0) := by
  have w := nW_of f 1 n h.v n0 n1
  have k := zxk_6 w.f0
  have e1 := h.kd n n0 n1
  have e2 := h.va n n0 n1
  have sz := h.sz
  unfold cL
  by_cases q : nf f n = 2
  · rw [if_neg (by omega)] at e2
    have e1' : S 98 n = 4 := by rw [e1]; exact k.2.1.mpr q
    by_cases c : a ≤ nc f n
    · by_cases d : nc f n ≤ b <;> simp (disch := omega) only [bcd, true_and, and_true, and_self, if_true, if_false, ite_true, ite_false, reduceIte, Int.reduceEq, Int.reduceNe, Int.reduceLT, Int.reduceLE, Int.reduceAdd, Int.reduceSub, Int.reduceMul, Int.reduceNeg, Int.reduceMod, Int.reduceDiv, Int.reduceToNat, Nat.reduceAdd, Nat.reduceLeDiff, List.length_cons, List.length_nil, not_false_eq_true, not_true_eq_false, ne_eq, or_false, false_or, or_self, false_and, and_false, or_true, true_or, ite_self, Int.add_sub_cancel, Int.sub_add_cancel, b_lc1, b_lc2, b_lc3, b_lc4, b_lc5, up_eq, up_ei, up_n1, up_n2, W32i, W8i, W16i, W64i, if_ps, if_ng, and_tr, fil_n1, fil_in, fil_out, le_tt, le_ff, lt_tt, lt_ff, eq_tt, eq_ff, M241, e1', e2, q, c, d]
    · simp (disch := omega) only [bcd, true_and, and_true, and_self, if_true, if_false, ite_true, ite_false, reduceIte, Int.reduceEq, Int.reduceNe, Int.reduceLT, Int.reduceLE, Int.reduceAdd, Int.reduceSub, Int.reduceMul, Int.reduceNeg, Int.reduceMod, Int.reduceDiv, Int.reduceToNat, Nat.reduceAdd, Nat.reduceLeDiff, List.length_cons, List.length_nil, not_false_eq_true, not_true_eq_false, ne_eq, or_false, false_or, or_self, false_and, and_false, or_true, true_or, ite_self, Int.add_sub_cancel, Int.sub_add_cancel, b_lc1, b_lc2, b_lc3, b_lc4, b_lc5, up_eq, up_ei, up_n1, up_n2, W32i, W8i, W16i, W64i, if_ps, if_ng, and_tr, fil_n1, fil_in, fil_out, le_tt, le_ff, lt_tt, lt_ff, eq_tt, eq_ff, M241, e1', e2, q, c]
  · have e1' : ¬ S 98 n = 4 := by rw [e1, k.2.1]; exact q
    simp (disch := omega) only [bcd, true_and, and_true, and_self, if_true, if_false, ite_true, ite_false, reduceIte, Int.reduceEq, Int.reduceNe, Int.reduceLT, Int.reduceLE, Int.reduceAdd, Int.reduceSub, Int.reduceMul, Int.reduceNeg, Int.reduceMod, Int.reduceDiv, Int.reduceToNat, Nat.reduceAdd, Nat.reduceLeDiff, List.length_cons, List.length_nil, not_false_eq_true, not_true_eq_false, ne_eq, or_false, false_or, or_self, false_and, and_false, or_true, true_or, ite_self, Int.add_sub_cancel, Int.sub_add_cancel, b_lc1, b_lc2, b_lc3, b_lc4, b_lc5, up_eq, up_ei, up_n1, up_n2, W32i, W8i, W16i, W64i, if_ps, if_ng, and_tr, fil_n1, fil_in, fil_out, le_tt, le_ff, lt_tt, lt_ff, eq_tt, eq_ff, M241, e1', q]
theorem x_isInt {S : Sto} {f : F} (h : XD S f) (n : Int) (n0 : 0 ≤ n) (n1 : n < fsize f) (Q : ZQ) : zCall Cd 244 2 [(33, 33), (0, n)] S Q = Q S (0, if nf f n = 3 then 1 else 0) := by
  have w := nW_of f 1 n h.v n0 n1
  have k := zxk_6 w.f0
  have e1 := h.kd n n0 n1
  have sz := h.sz
  by_cases q : nf f n = 3
  · have e1' : S 98 n = 0 := by rw [e1]; exact k.2.2.1.mpr q
    simp (disch := omega) only [bcd, true_and, and_true, and_self, if_true, if_false, ite_true, ite_false, reduceIte, Int.reduceEq, Int.reduceNe, Int.reduceLT, Int.reduceLE, Int.reduceAdd, Int.reduceSub, Int.reduceMul, Int.reduceNeg, Int.reduceMod, Int.reduceDiv, Int.reduceToNat, Nat.reduceAdd, Nat.reduceLeDiff, List.length_cons, List.length_nil, not_false_eq_true, not_true_eq_false, ne_eq, or_false, false_or, or_self, false_and, and_false, or_true, true_or, ite_self, Int.add_sub_cancel, Int.sub_add_cancel, b_lc1, b_lc2, b_lc3, b_lc4, b_lc5, up_eq, up_ei, up_n1, up_n2, W32i, W8i, W16i, W64i, if_ps, if_ng, and_tr, fil_n1, fil_in, fil_out, le_tt, le_ff, lt_tt, lt_ff, eq_tt, eq_ff, M244, e1', q]
  · have e1' : ¬ S 98 n = 0 := by rw [e1, k.2.2.1]; exact q
    simp (disch := omega) only [bcd, true_and, and_true, and_self, if_true, if_false, ite_true, ite_false, reduceIte, Int.reduceEq, Int.reduceNe, Int.reduceLT, Int.reduceLE, Int.reduceAdd, Int.reduceSub, Int.reduceMul, Int.reduceNeg, Int.reduceMod, Int.reduceDiv, Int.reduceToNat, Nat.reduceAdd, Nat.reduceLeDiff, List.length_cons, List.length_nil, not_false_eq_true, not_true_eq_false, ne_eq, or_false, false_or, or_self, false_and, and_false, or_true, true_or, ite_self, Int.add_sub_cancel, Int.sub_add_cancel, b_lc1, b_lc2, b_lc3, b_lc4, b_lc5, up_eq, up_ei, up_n1, up_n2, W32i, W8i, W16i, W64i, if_ps, if_ng, and_tr, fil_n1, fil_in, fil_out, le_tt, le_ff, lt_tt, lt_ff, eq_tt, eq_ff, M244, e1', q]
theorem x_isWithin {S : Sto} {f : F} (h : XD S f) (n a b : Int) (n0 : 0 ≤ n) (n1 : n < fsize f) (Q : ZQ) : zCall Cd 246 6 [(33, 33), (0, n), (1, a), (1, b)] S Q = Q S (0, if cI f n a b then 1 else 0) := by
  have e2 := h.va n n0 n1
  have sz := h.sz
  have I := fun Q => x_isInt h n n0 n1 Q
  unfold cI
  by_cases q : nf f n = 3
  · rw [if_pos q] at e2
    simp only [if_pos q] at I
    by_cases c : a ≤ nt f n
    · by_cases d : nt f n ≤ b <;> simp (disch := omega) only [bcd, true_and, and_true, and_self, if_true, if_false, ite_true, ite_false, reduceIte, Int.reduceEq, Int.reduceNe, Int.reduceLT, Int.reduceLE, Int.reduceAdd, Int.reduceSub, Int.reduceMul, Int.reduceNeg, Int.reduceMod, Int.reduceDiv, Int.reduceToNat, Nat.reduceAdd, Nat.reduceLeDiff, List.length_cons, List.length_nil, not_false_eq_true, not_true_eq_false, ne_eq, or_false, false_or, or_self, false_and, and_false, or_true, true_or, ite_self, Int.add_sub_cancel, Int.sub_add_cancel, b_lc1, b_lc2, b_lc3, b_lc4, b_lc5, up_eq, up_ei, up_n1, up_n2, W32i, W8i, W16i, W64i, if_ps, if_ng, and_tr, fil_n1, fil_in, fil_out, le_tt, le_ff, lt_tt, lt_ff, eq_tt, eq_ff, M246, I, e2, q, c, d]
    · simp (disch := omega) only [bcd, true_and, and_true, and_self, if_true, if_false, ite_true, ite_false, reduceIte, Int.reduceEq, Int.reduceNe, Int.reduceLT, Int.reduceLE, Int.reduceAdd, Int.reduceSub, Int.reduceMul, Int.reduceNeg, Int.reduceMod, Int.reduceDiv, Int.reduceToNat, Nat.reduceAdd, Nat.reduceLeDiff, List.length_cons, List.length_nil, not_false_eq_true, not_true_eq_false, ne_eq, or_false, false_or, or_self, false_and, and_false, or_true, true_or, ite_self, Int.add_sub_cancel, Int.sub_add_cancel, b_lc1, b_lc2, b_lc3, b_lc4, b_lc5, up_eq, up_ei, up_n1, up_n2, W32i, W8i, W16i, W64i, if_ps, if_ng, and_tr, fil_n1, fil_in, fil_out, le_tt, le_ff, lt_tt, lt_ff, eq_tt, eq_ff, M246, I, e2, q, c]
  · simp only [if_neg q] at I
    simp (disch := omega) only [bcd, true_and, and_true, and_self, if_true, if_false, ite_true, ite_false, reduceIte, Int.reduceEq, Int.reduceNe, Int.reduceLT, Int.reduceLE, Int.reduceAdd, Int.reduceSub, Int.reduceMul, Int.reduceNeg, Int.reduceMod, Int.reduceDiv, Int.reduceToNat, Nat.reduceAdd, Nat.reduceLeDiff, List.length_cons, List.length_nil, not_false_eq_true, not_true_eq_false, ne_eq, or_false, false_or, or_self, false_and, and_false, or_true, true_or, ite_self, Int.add_sub_cancel, Int.sub_add_cancel, b_lc1, b_lc2, b_lc3, b_lc4, b_lc5, up_eq, up_ei, up_n1, up_n2, W32i, W8i, W16i, W64i, if_ps, if_ng, and_tr, fil_n1, fil_in, fil_out, le_tt, le_ff, lt_tt, lt_ff, eq_tt, eq_ff, M246, I, q]
theorem x_many {S : Sto} {f : F} (h : XD S f) (n : Int) (n0 : 0 ≤ n) (n1 : n < fsize f) (q : nf f n ≠ 3) (Q : ZQ) : zCall Cd 243 2 [(33, 33), (0, n)] S Q = Q S (0, nc f n) := by
  have e2 := h.va n n0 n1
  rw [if_neg q] at e2
  have w := nW_of f 1 n h.v n0 n1
  have sz := h.sz
  have b : nc f n ≤ 200 := by
    by_cases q4 : nf f n = 4
    · have := (w.t4 q4).2; omega
    · have c1 := w.c1 q4
      have s2 := w.s2
      have c0 := w.c0
      have f0 := w.f0
      unfold nch at c1
      split at c1
      · omega
      · rw [if_pos (by omega)] at c1; omega
  have c0 := w.c0
  simp (disch := omega) only [bcd, true_and, and_true, and_self, if_true, if_false, ite_true, ite_false, reduceIte, Int.reduceEq, Int.reduceNe, Int.reduceLT, Int.reduceLE, Int.reduceAdd, Int.reduceSub, Int.reduceMul, Int.reduceNeg, Int.reduceMod, Int.reduceDiv, Int.reduceToNat, Nat.reduceAdd, Nat.reduceLeDiff, List.length_cons, List.length_nil, not_false_eq_true, not_true_eq_false, ne_eq, or_false, false_or, or_self, false_and, and_false, or_true, true_or, ite_self, Int.add_sub_cancel, Int.sub_add_cancel, b_lc1, b_lc2, b_lc3, b_lc4, b_lc5, up_eq, up_ei, up_n1, up_n2, W32i, W8i, W16i, W64i, if_ps, if_ng, and_tr, fil_n1, fil_in, fil_out, le_tt, le_ff, lt_tt, lt_ff, eq_tt, eq_ff, M243, e2]
theorem x_value {S : Sto} {f : F} (h : XD S f) (n : Int) (n0 : 0 ≤ n) (n1 : n < fsize f) (Q : ZQ) : zCall Cd 251 2 [(33, 33), (0, n)] S Q = Q S (1, if nf f n = 3 then nt f n else nc f n) := by
  have e2 := h.va n n0 n1
  have sz := h.sz
  simp (disch := omega) only [bcd, true_and, and_true, and_self, if_true, if_false, ite_true, ite_false, reduceIte, Int.reduceEq, Int.reduceNe, Int.reduceLT, Int.reduceLE, Int.reduceAdd, Int.reduceSub, Int.reduceMul, Int.reduceNeg, Int.reduceMod, Int.reduceDiv, Int.reduceToNat, Nat.reduceAdd, Nat.reduceLeDiff, List.length_cons, List.length_nil, not_false_eq_true, not_true_eq_false, ne_eq, or_false, false_or, or_self, false_and, and_false, or_true, true_or, ite_self, Int.add_sub_cancel, Int.sub_add_cancel, b_lc1, b_lc2, b_lc3, b_lc4, b_lc5, up_eq, up_ei, up_n1, up_n2, W32i, W8i, W16i, W64i, if_ps, if_ng, and_tr, fil_n1, fil_in, fil_out, le_tt, le_ff, lt_tt, lt_ff, eq_tt, eq_ff, M251, e2]
theorem x_within {S : Sto} {f : F} (h : XD S f) (n i : Int) (n0 : 0 ≤ n) (n1 : n < fsize f) (i1 : i ≤ nch f n) (i0 : 0 ≤ i) (Q : ZQ) : zCall Cd 239 5 [(33, 33), (0, n), (0, i)] S Q = Q S (0, wi f n i.toNat) := by
  have sz := h.sz
  have nw := nW_of f 1 n h.v n0 n1
  have s2 := nw.s2
  have ib : i ≤ 200 := by
    have c0 := nw.c0
    have f0 := nw.f0
    by_cases q4 : nf f n = 4
    · unfold nch at i1; rw [if_neg (by omega), if_neg (by omega)] at i1; omega
    · have := nw.c1 q4; omega
  have lp : ∀ (c : Nat) (j : Nat), (j : Int) + c = i → zG Cd 239 (Cd 239 7) [(33, 33), (0, n), (0, i), (0, wi f n j), (0, (j : Int))] [] S Q = Q S (0, wi f n i.toNat) := by
    intro c
    induction c with
    | zero =>
      intro j hj
      rw [L239_7, show i.toNat = j by omega]
      simp (disch := omega) only [bcd, true_and, and_true, and_self, if_true, if_false, ite_true, ite_false, reduceIte, Int.reduceEq, Int.reduceNe, Int.reduceLT, Int.reduceLE, Int.reduceAdd, Int.reduceSub, Int.reduceMul, Int.reduceNeg, Int.reduceMod, Int.reduceDiv, Int.reduceToNat, Nat.reduceAdd, Nat.reduceLeDiff, List.length_cons, List.length_nil, not_false_eq_true, not_true_eq_false, ne_eq, or_false, false_or, or_self, false_and, and_false, or_true, true_or, ite_self, Int.add_sub_cancel, Int.sub_add_cancel, b_lc1, b_lc2, b_lc3, b_lc4, b_lc5, up_eq, up_ei, up_n1, up_n2, W32i, W8i, W16i, W64i, if_ps, if_ng, and_tr, fil_n1, fil_in, fil_out, le_tt, le_ff, lt_tt, lt_ff, eq_tt, eq_ff, M239]
    | succ c ih =>
      intro j hj
      obtain ⟨a, b, d, e⟩ := wi_ok f 1 n h.v n0 n1 j (by omega)
      have d := d (by omega)
      have w := nW_of f 1 (wi f n j) h.v (by omega) (by omega)
      have e2 := h.ss (wi f n j) (by omega) (by omega)
      have w1 := w.s1
      have w2 := w.s2
      have I := ih (j + 1) (by omega)
      rw [wi, show ((j + 1 : Nat) : Int) = (j : Int) + 1 by omega] at I
      rw [L239_7]
      simp (disch := omega) only [bcd, true_and, and_true, and_self, if_true, if_false, ite_true, ite_false, reduceIte, Int.reduceEq, Int.reduceNe, Int.reduceLT, Int.reduceLE, Int.reduceAdd, Int.reduceSub, Int.reduceMul, Int.reduceNeg, Int.reduceMod, Int.reduceDiv, Int.reduceToNat, Nat.reduceAdd, Nat.reduceLeDiff, List.length_cons, List.length_nil, not_false_eq_true, not_true_eq_false, ne_eq, or_false, false_or, or_self, false_and, and_false, or_true, true_or, ite_self, Int.add_sub_cancel, Int.sub_add_cancel, b_lc1, b_lc2, b_lc3, b_lc4, b_lc5, up_eq, up_ei, up_n1, up_n2, W32i, W8i, W16i, W64i, if_ps, if_ng, and_tr, fil_n1, fil_in, fil_out, le_tt, le_ff, lt_tt, lt_ff, eq_tt, eq_ff, M240, e2, I]
  have := lp i.toNat 0 (by omega)
  rw [wi] at this
  simp (disch := omega) only [bcd, true_and, and_true, and_self, if_true, if_false, ite_true, ite_false, reduceIte, Int.reduceEq, Int.reduceNe, Int.reduceLT, Int.reduceLE, Int.reduceAdd, Int.reduceSub, Int.reduceMul, Int.reduceNeg, Int.reduceMod, Int.reduceDiv, Int.reduceToNat, Nat.reduceAdd, Nat.reduceLeDiff, List.length_cons, List.length_nil, not_false_eq_true, not_true_eq_false, ne_eq, or_false, false_or, or_self, false_and, and_false, or_true, true_or, ite_self, Int.add_sub_cancel, Int.sub_add_cancel, b_lc1, b_lc2, b_lc3, b_lc4, b_lc5, up_eq, up_ei, up_n1, up_n2, W32i, W8i, W16i, W64i, if_ps, if_ng, and_tr, fil_n1, fil_in, fil_out, le_tt, le_ff, lt_tt, lt_ff, eq_tt, eq_ff, M239]
  exact this
/-! M asks -/
theorem m_isCon {S : Sto} {f : F} (h : MD S f) (n t c : Int) (n0 : 0 ≤ n) (n1 : n < fsize f) (Q : ZQ) : zCall Cd 284 4 [(34, 34), (0, n), (0, t), (0, c)] S Q = Q S (0, if cM f n t c then 1 else 0) := by
  have e1 := h.fm n n0 n1
  have e2 := h.tg n n0 n1
  have e3 := h.ct n n0 n1
  have sz := h.sz
  unfold cM
  by_cases a : nf f n = 0
  · by_cases b : nt f n = t
    · by_cases d : nc f n = c <;> simp (disch := omega) only [bcd, true_and, and_true, and_self, if_true, if_false, ite_true, ite_false, reduceIte, Int.reduceEq, Int.reduceNe, Int.reduceLT, Int.reduceLE, Int.reduceAdd, Int.reduceSub, Int.reduceMul, Int.reduceNeg, Int.reduceMod, Int.reduceDiv, Int.reduceToNat, Nat.reduceAdd, Nat.reduceLeDiff, List.length_cons, List.length_nil, not_false_eq_true, not_true_eq_false, ne_eq, or_false, false_or, or_self, false_and, and_false, or_true, true_or, ite_self, Int.add_sub_cancel, Int.sub_add_cancel, b_lc1, b_lc2, b_lc3, b_lc4, b_lc5, up_eq, up_ei, up_n1, up_n2, W32i, W8i, W16i, W64i, if_ps, if_ng, and_tr, fil_n1, fil_in, fil_out, le_tt, le_ff, lt_tt, lt_ff, eq_tt, eq_ff, M284, e1, e2, e3, a, b, d]
    · simp (disch := omega) only [bcd, true_and, and_true, and_self, if_true, if_false, ite_true, ite_false, reduceIte, Int.reduceEq, Int.reduceNe, Int.reduceLT, Int.reduceLE, Int.reduceAdd, Int.reduceSub, Int.reduceMul, Int.reduceNeg, Int.reduceMod, Int.reduceDiv, Int.reduceToNat, Nat.reduceAdd, Nat.reduceLeDiff, List.length_cons, List.length_nil, not_false_eq_true, not_true_eq_false, ne_eq, or_false, false_or, or_self, false_and, and_false, or_true, true_or, ite_self, Int.add_sub_cancel, Int.sub_add_cancel, b_lc1, b_lc2, b_lc3, b_lc4, b_lc5, up_eq, up_ei, up_n1, up_n2, W32i, W8i, W16i, W64i, if_ps, if_ng, and_tr, fil_n1, fil_in, fil_out, le_tt, le_ff, lt_tt, lt_ff, eq_tt, eq_ff, M284, e1, e2, e3, a, b]
  · simp (disch := omega) only [bcd, true_and, and_true, and_self, if_true, if_false, ite_true, ite_false, reduceIte, Int.reduceEq, Int.reduceNe, Int.reduceLT, Int.reduceLE, Int.reduceAdd, Int.reduceSub, Int.reduceMul, Int.reduceNeg, Int.reduceMod, Int.reduceDiv, Int.reduceToNat, Nat.reduceAdd, Nat.reduceLeDiff, List.length_cons, List.length_nil, not_false_eq_true, not_true_eq_false, ne_eq, or_false, false_or, or_self, false_and, and_false, or_true, true_or, ite_self, Int.add_sub_cancel, Int.sub_add_cancel, b_lc1, b_lc2, b_lc3, b_lc4, b_lc5, up_eq, up_ei, up_n1, up_n2, W32i, W8i, W16i, W64i, if_ps, if_ng, and_tr, fil_n1, fil_in, fil_out, le_tt, le_ff, lt_tt, lt_ff, eq_tt, eq_ff, M284, e1, e2, e3, a]
theorem m_isList {S : Sto} {f : F} (h : MD S f) (n a b : Int) (n0 : 0 ≤ n) (n1 : n < fsize f) (Q : ZQ) : zCall Cd 286 4 [(34, 34), (0, n), (0, a), (0, b)] S Q = Q S (0, if cL f n a b then 1 else 0) := by
  have e1 := h.fm n n0 n1
  have e3 := h.ct n n0 n1
  have sz := h.sz
  unfold cL
  by_cases q : nf f n = 2
  · by_cases c : a ≤ nc f n
    · by_cases d : nc f n ≤ b <;> simp (disch := omega) only [bcd, true_and, and_true, and_self, if_true, if_false, ite_true, ite_false, reduceIte, Int.reduceEq, Int.reduceNe, Int.reduceLT, Int.reduceLE, Int.reduceAdd, Int.reduceSub, Int.reduceMul, Int.reduceNeg, Int.reduceMod, Int.reduceDiv, Int.reduceToNat, Nat.reduceAdd, Nat.reduceLeDiff, List.length_cons, List.length_nil, not_false_eq_true, not_true_eq_false, ne_eq, or_false, false_or, or_self, false_and, and_false, or_true, true_or, ite_self, Int.add_sub_cancel, Int.sub_add_cancel, b_lc1, b_lc2, b_lc3, b_lc4, b_lc5, up_eq, up_ei, up_n1, up_n2, W32i, W8i, W16i, W64i, if_ps, if_ng, and_tr, fil_n1, fil_in, fil_out, le_tt, le_ff, lt_tt, lt_ff, eq_tt, eq_ff, M286, e1, e3, q, c, d]
    · simp (disch := omega) only [bcd, true_and, and_true, and_self, if_true, if_false, ite_true, ite_false, reduceIte, Int.reduceEq, Int.reduceNe, Int.reduceLT, Int.reduceLE, Int.reduceAdd, Int.reduceSub, Int.reduceMul, Int.reduceNeg, Int.reduceMod, Int.reduceDiv, Int.reduceToNat, Nat.reduceAdd, Nat.reduceLeDiff, List.length_cons, List.length_nil, not_false_eq_true, not_true_eq_false, ne_eq, or_false, false_or, or_self, false_and, and_false, or_true, true_or, ite_self, Int.add_sub_cancel, Int.sub_add_cancel, b_lc1, b_lc2, b_lc3, b_lc4, b_lc5, up_eq, up_ei, up_n1, up_n2, W32i, W8i, W16i, W64i, if_ps, if_ng, and_tr, fil_n1, fil_in, fil_out, le_tt, le_ff, lt_tt, lt_ff, eq_tt, eq_ff, M286, e1, e3, q, c]
  · simp (disch := omega) only [bcd, true_and, and_true, and_self, if_true, if_false, ite_true, ite_false, reduceIte, Int.reduceEq, Int.reduceNe, Int.reduceLT, Int.reduceLE, Int.reduceAdd, Int.reduceSub, Int.reduceMul, Int.reduceNeg, Int.reduceMod, Int.reduceDiv, Int.reduceToNat, Nat.reduceAdd, Nat.reduceLeDiff, List.length_cons, List.length_nil, not_false_eq_true, not_true_eq_false, ne_eq, or_false, false_or, or_self, false_and, and_false, or_true, true_or, ite_self, Int.add_sub_cancel, Int.sub_add_cancel, b_lc1, b_lc2, b_lc3, b_lc4, b_lc5, up_eq, up_ei, up_n1, up_n2, W32i, W8i, W16i, W64i, if_ps, if_ng, and_tr, fil_n1, fil_in, fil_out, le_tt, le_ff, lt_tt, lt_ff, eq_tt, eq_ff, M286, e1, q]
theorem m_isInt {S : Sto} {f : F} (h : MD S f) (n a b : Int) (n0 : 0 ≤ n) (n1 : n < fsize f) (Q : ZQ) : zCall Cd 289 6 [(34, 34), (0, n), (1, a), (1, b)] S Q = Q S (0, if cI f n a b then 1 else 0) := by
  have e1 := h.fm n n0 n1
  have e2 := h.tg n n0 n1
  have sz := h.sz
  unfold cI
  by_cases q : nf f n = 3
  · by_cases c : a ≤ nt f n
    · by_cases d : nt f n ≤ b <;> simp (disch := omega) only [bcd, true_and, and_true, and_self, if_true, if_false, ite_true, ite_false, reduceIte, Int.reduceEq, Int.reduceNe, Int.reduceLT, Int.reduceLE, Int.reduceAdd, Int.reduceSub, Int.reduceMul, Int.reduceNeg, Int.reduceMod, Int.reduceDiv, Int.reduceToNat, Nat.reduceAdd, Nat.reduceLeDiff, List.length_cons, List.length_nil, not_false_eq_true, not_true_eq_false, ne_eq, or_false, false_or, or_self, false_and, and_false, or_true, true_or, ite_self, Int.add_sub_cancel, Int.sub_add_cancel, b_lc1, b_lc2, b_lc3, b_lc4, b_lc5, up_eq, up_ei, up_n1, up_n2, W32i, W8i, W16i, W64i, if_ps, if_ng, and_tr, fil_n1, fil_in, fil_out, le_tt, le_ff, lt_tt, lt_ff, eq_tt, eq_ff, M289, e1, e2, q, c, d]
    · simp (disch := omega) only [bcd, true_and, and_true, and_self, if_true, if_false, ite_true, ite_false, reduceIte, Int.reduceEq, Int.reduceNe, Int.reduceLT, Int.reduceLE, Int.reduceAdd, Int.reduceSub, Int.reduceMul, Int.reduceNeg, Int.reduceMod, Int.reduceDiv, Int.reduceToNat, Nat.reduceAdd, Nat.reduceLeDiff, List.length_cons, List.length_nil, not_false_eq_true, not_true_eq_false, ne_eq, or_false, false_or, or_self, false_and, and_false, or_true, true_or, ite_self, Int.add_sub_cancel, Int.sub_add_cancel, b_lc1, b_lc2, b_lc3, b_lc4, b_lc5, up_eq, up_ei, up_n1, up_n2, W32i, W8i, W16i, W64i, if_ps, if_ng, and_tr, fil_n1, fil_in, fil_out, le_tt, le_ff, lt_tt, lt_ff, eq_tt, eq_ff, M289, e1, e2, q, c]
  · simp (disch := omega) only [bcd, true_and, and_true, and_self, if_true, if_false, ite_true, ite_false, reduceIte, Int.reduceEq, Int.reduceNe, Int.reduceLT, Int.reduceLE, Int.reduceAdd, Int.reduceSub, Int.reduceMul, Int.reduceNeg, Int.reduceMod, Int.reduceDiv, Int.reduceToNat, Nat.reduceAdd, Nat.reduceLeDiff, List.length_cons, List.length_nil, not_false_eq_true, not_true_eq_false, ne_eq, or_false, false_or, or_self, false_and, and_false, or_true, true_or, ite_self, Int.add_sub_cancel, Int.sub_add_cancel, b_lc1, b_lc2, b_lc3, b_lc4, b_lc5, up_eq, up_ei, up_n1, up_n2, W32i, W8i, W16i, W64i, if_ps, if_ng, and_tr, fil_n1, fil_in, fil_out, le_tt, le_ff, lt_tt, lt_ff, eq_tt, eq_ff, M289, e1, q]
theorem m_within {S : Sto} {f : F} (h : MD S f) (n i : Int) (n0 : 0 ≤ n) (n1 : n < fsize f) (i1 : i ≤ nch f n) (i0 : 0 ≤ i) (Q : ZQ) : zCall Cd 285 5 [(34, 34), (0, n), (0, i)] S Q = Q S (0, wi f n i.toNat) := by
  have sz := h.sz
  have nw := nW_of f 1 n h.v n0 n1
  have s2 := nw.s2
  have ib : i ≤ 200 := by
    have c0 := nw.c0
    have f0 := nw.f0
    by_cases q4 : nf f n = 4
    · unfold nch at i1; rw [if_neg (by omega), if_neg (by omega)] at i1; omega
    · have := nw.c1 q4; omega
  have lp : ∀ (c : Nat) (j : Nat), (j : Int) + c = i → zG Cd 285 (Cd 285 7) [(34, 34), (0, n), (0, i), (0, wi f n j), (0, (j : Int))] [] S Q = Q S (0, wi f n i.toNat) := by
    intro c
    induction c with
    | zero =>
      intro j hj
      rw [L285_7, show i.toNat = j by omega]
      simp (disch := omega) only [bcd, true_and, and_true, and_self, if_true, if_false, ite_true, ite_false, reduceIte, Int.reduceEq, Int.reduceNe, Int.reduceLT, Int.reduceLE, Int.reduceAdd, Int.reduceSub, Int.reduceMul, Int.reduceNeg, Int.reduceMod, Int.reduceDiv, Int.reduceToNat, Nat.reduceAdd, Nat.reduceLeDiff, List.length_cons, List.length_nil, not_false_eq_true, not_true_eq_false, ne_eq, or_false, false_or, or_self, false_and, and_false, or_true, true_or, ite_self, Int.add_sub_cancel, Int.sub_add_cancel, b_lc1, b_lc2, b_lc3, b_lc4, b_lc5, up_eq, up_ei, up_n1, up_n2, W32i, W8i, W16i, W64i, if_ps, if_ng, and_tr, fil_n1, fil_in, fil_out, le_tt, le_ff, lt_tt, lt_ff, eq_tt, eq_ff, M285]
    | succ c ih =>
      intro j hj
      obtain ⟨a, b, d, e⟩ := wi_ok f 1 n h.v n0 n1 j (by omega)
      have d := d (by omega)
      have w := nW_of f 1 (wi f n j) h.v (by omega) (by omega)
      have e2 := h.wh (wi f n j) (by omega) (by omega)
      have w1 := w.s1
      have w2 := w.s2
      have I := ih (j + 1) (by omega)
      rw [wi, show ((j + 1 : Nat) : Int) = (j : Int) + 1 by omega] at I
      rw [L285_7]
      simp (disch := omega) only [bcd, true_and, and_true, and_self, if_true, if_false, ite_true, ite_false, reduceIte, Int.reduceEq, Int.reduceNe, Int.reduceLT, Int.reduceLE, Int.reduceAdd, Int.reduceSub, Int.reduceMul, Int.reduceNeg, Int.reduceMod, Int.reduceDiv, Int.reduceToNat, Nat.reduceAdd, Nat.reduceLeDiff, List.length_cons, List.length_nil, not_false_eq_true, not_true_eq_false, ne_eq, or_false, false_or, or_self, false_and, and_false, or_true, true_or, ite_self, Int.add_sub_cancel, Int.sub_add_cancel, b_lc1, b_lc2, b_lc3, b_lc4, b_lc5, up_eq, up_ei, up_n1, up_n2, W32i, W8i, W16i, W64i, if_ps, if_ng, and_tr, fil_n1, fil_in, fil_out, le_tt, le_ff, lt_tt, lt_ff, eq_tt, eq_ff, e2, I]
  have := lp i.toNat 0 (by omega)
  rw [wi] at this
  simp (disch := omega) only [bcd, true_and, and_true, and_self, if_true, if_false, ite_true, ite_false, reduceIte, Int.reduceEq, Int.reduceNe, Int.reduceLT, Int.reduceLE, Int.reduceAdd, Int.reduceSub, Int.reduceMul, Int.reduceNeg, Int.reduceMod, Int.reduceDiv, Int.reduceToNat, Nat.reduceAdd, Nat.reduceLeDiff, List.length_cons, List.length_nil, not_false_eq_true, not_true_eq_false, ne_eq, or_false, false_or, or_self, false_and, and_false, or_true, true_or, ite_self, Int.add_sub_cancel, Int.sub_add_cancel, b_lc1, b_lc2, b_lc3, b_lc4, b_lc5, up_eq, up_ei, up_n1, up_n2, W32i, W8i, W16i, W64i, if_ps, if_ng, and_tr, fil_n1, fil_in, fil_out, le_tt, le_ff, lt_tt, lt_ff, eq_tt, eq_ff, M285]
  exact this
