-- uses: 65
def zall (P : Nat → Bool) : Nat → Nat → Bool
  | 0, _ => true
  | c + 1, j => P j && zall P c (j + 1)
def zb1 (b : Bool) : Int := cond b 1 0
theorem zb1_t : zb1 true = 1 := rfl
theorem zb1_f : zb1 false = 0 := rfl
theorem zall_iff (P : Nat → Bool) : ∀ c j, zall P c j = true ↔ ∀ i, j ≤ i → i < j + c → P i = true := by
  intro c
  induction c with
  | zero => intro j; simp [zall]; intros; omega
  | succ c ih =>
    intro j
    rw [zall, Bool.and_eq_true, ih]
    constructor
    · rintro ⟨a, b⟩ i h1 h2
      by_cases q : i = j
      · rw [q]; exact a
      · exact b i (by omega) (by omega)
    · intro h
      exact ⟨h j (by omega) (by omega), fun i h1 h2 => h i (by omega) (by omega)⟩
/-- what is within a list -/
theorem wi_l {f : F} {l : Int} (v : fval 1 f) (l0 : 0 ≤ l) (l1 : l < fsize f) (h2 : nf f l = 2) (j : Nat) (hj : (j : Int) < nc f l) : l < wi f l j ∧ wi f l j < fsize f ∧ nch f l = nc f l := by
  have e : nch f l = nc f l := by unfold nch; rw [if_neg (by omega), if_pos (by omega)]
  have w := wi_ok f 1 l v l0 l1 j (by omega)
  have s2 := (nW_of f 1 l v l0 l1).s2
  have := w.2.2.1 (by omega)
  exact ⟨by omega, by omega, e⟩
theorem nc_b {f : F} {l : Int} (v : fval 1 f) (sz : fsize f ≤ 200) (l0 : 0 ≤ l) (l1 : l < fsize f) (h2 : nf f l = 2) : 0 ≤ nc f l ∧ nc f l ≤ 199 := by
  have w := nW_of f 1 l v l0 l1
  have c1 := w.c1 (by omega)
  have s2 := w.s2
  have c0 := w.c0
  unfold nch at c1
  rw [if_neg (by omega), if_pos (by omega)] at c1
  omega
theorem nk_in {f : F} {n c : Int} (v : fval 1 f) (n0 : 0 ≤ n) (n1 : n < fsize f) (h : nf f n = 0 ∨ nf f n = 2) (hc : nc f n = c) : n + 1 + c ≤ fsize f := by
  have w := nW_of f 1 n v n0 n1
  have c1 := w.c1 (by omega)
  have s2 := w.s2
  unfold nch at c1
  rw [if_neg (by omega), if_pos h] at c1
  omega
def pIn (f : F) (l : Int) (i : Nat) : Bool := decide (cM f (wi f l i) 0 2 ∧ nf f (wi f l i + 1) = 3)
theorem x_areInputs {S : Sto} {f : F} (h : XD S f) (l : Int) (hl : S 113 0 = l) (l0 : 0 ≤ l) (l1 : l < fsize f) (h2 : nf f l = 2) (Q : ZQ) : zCall Cd 242 4 [(33, 33)] S Q = Q S (0, zb1 (zall (pIn f l) (nc f l).toNat 0)) := by
  have sz := h.sz
  have cb := nc_b h.v sz l0 l1 h2
  have mn := fun Q => x_many h l l0 l1 (by omega) Q
  have ex0 : ∀ (n k : Int), zG Cd 242 (Cd 242 13) [(33, 33), (0, 0), (0, n), (0, k)] [] S Q = Q S (0, 0) := by
    intro n k
    rw [L242_13]
    by_cases q : nc f l ≤ k <;> simp (disch := omega) only [bcd, true_and, and_true, and_self, if_true, if_false, ite_true, ite_false, reduceIte, Int.reduceEq, Int.reduceNe, Int.reduceLT, Int.reduceLE, Int.reduceAdd, Int.reduceSub, Int.reduceMul, Int.reduceNeg, Int.reduceMod, Int.reduceDiv, Int.reduceToNat, Nat.reduceAdd, Nat.reduceLeDiff, List.length_cons, List.length_nil, not_false_eq_true, not_true_eq_false, ne_eq, or_false, false_or, or_self, false_and, and_false, or_true, true_or, ite_self, Int.add_sub_cancel, Int.sub_add_cancel, b_lc1, b_lc2, b_lc3, b_lc4, b_lc5, up_eq, up_ei, up_n1, up_n2, W32i, W8i, W16i, W64i, if_ps, if_ng, and_tr, fil_n1, fil_in, fil_out, le_tt, le_ff, lt_tt, lt_ff, eq_tt, eq_ff, M242, hl, mn]
  have lp : ∀ (c j : Nat), (j : Int) + c = nc f l → zG Cd 242 (Cd 242 13) [(33, 33), (0, 1), (0, wi f l j), (0, (j : Int))] [] S Q = Q S (0, zb1 (zall (pIn f l) c j)) := by
    intro c
    induction c with
    | zero =>
      intro j hj
      rw [L242_13, zall, zb1_t]
      simp (disch := omega) only [bcd, true_and, and_true, and_self, if_true, if_false, ite_true, ite_false, reduceIte, Int.reduceEq, Int.reduceNe, Int.reduceLT, Int.reduceLE, Int.reduceAdd, Int.reduceSub, Int.reduceMul, Int.reduceNeg, Int.reduceMod, Int.reduceDiv, Int.reduceToNat, Nat.reduceAdd, Nat.reduceLeDiff, List.length_cons, List.length_nil, not_false_eq_true, not_true_eq_false, ne_eq, or_false, false_or, or_self, false_and, and_false, or_true, true_or, ite_self, Int.add_sub_cancel, Int.sub_add_cancel, b_lc1, b_lc2, b_lc3, b_lc4, b_lc5, up_eq, up_ei, up_n1, up_n2, W32i, W8i, W16i, W64i, if_ps, if_ng, and_tr, fil_n1, fil_in, fil_out, le_tt, le_ff, lt_tt, lt_ff, eq_tt, eq_ff, M242, hl, mn]
    | succ c ih =>
      intro j hj
      obtain ⟨a1, a2, a3⟩ := wi_l h.v l0 l1 h2 j (by omega)
      have w := nW_of f 1 (wi f l j) h.v (by omega) a2
      have w1 := w.s1
      have w2 := w.s2
      have ss := h.ss (wi f l j) (by omega) a2
      have im := fun Q => x_isMade h (wi f l j) 0 2 (by omega) a2 Q
      have I := ih (j + 1) (by omega)
      rw [wi, show ((j + 1 : Nat) : Int) = (j : Int) + 1 by omega] at I
      rw [zall]
      by_cases c1 : cM f (wi f l j) 0 2
      · simp only [if_pos c1] at im
        have nk := nk_in h.v (by omega) a2 (Or.inl c1.1) c1.2.2
        have ii := fun Q => x_isInt h (wi f l j + 1) (by omega) (by omega) Q
        by_cases c2 : nf f (wi f l j + 1) = 3
        · simp only [if_pos c2] at ii
          have p : pIn f l j = true := decide_eq_true ⟨c1, c2⟩
          rw [L242_13]
          rw [p, Bool.true_and]
          simp (disch := omega) only [bcd, true_and, and_true, and_self, if_true, if_false, ite_true, ite_false, reduceIte, Int.reduceEq, Int.reduceNe, Int.reduceLT, Int.reduceLE, Int.reduceAdd, Int.reduceSub, Int.reduceMul, Int.reduceNeg, Int.reduceMod, Int.reduceDiv, Int.reduceToNat, Nat.reduceAdd, Nat.reduceLeDiff, List.length_cons, List.length_nil, not_false_eq_true, not_true_eq_false, ne_eq, or_false, false_or, or_self, false_and, and_false, or_true, true_or, ite_self, Int.add_sub_cancel, Int.sub_add_cancel, b_lc1, b_lc2, b_lc3, b_lc4, b_lc5, up_eq, up_ei, up_n1, up_n2, W32i, W8i, W16i, W64i, if_ps, if_ng, and_tr, fil_n1, fil_in, fil_out, le_tt, le_ff, lt_tt, lt_ff, eq_tt, eq_ff, M242, M240, hl, mn, im, ii, ss, I]
        · simp only [if_neg c2] at ii
          have p : pIn f l j = false := decide_eq_false (fun x => c2 x.2)
          rw [L242_13]
          rw [p, Bool.false_and, zb1_f]
          simp (disch := omega) only [bcd, true_and, and_true, and_self, if_true, if_false, ite_true, ite_false, reduceIte, Int.reduceEq, Int.reduceNe, Int.reduceLT, Int.reduceLE, Int.reduceAdd, Int.reduceSub, Int.reduceMul, Int.reduceNeg, Int.reduceMod, Int.reduceDiv, Int.reduceToNat, Nat.reduceAdd, Nat.reduceLeDiff, List.length_cons, List.length_nil, not_false_eq_true, not_true_eq_false, ne_eq, or_false, false_or, or_self, false_and, and_false, or_true, true_or, ite_self, Int.add_sub_cancel, Int.sub_add_cancel, b_lc1, b_lc2, b_lc3, b_lc4, b_lc5, up_eq, up_ei, up_n1, up_n2, W32i, W8i, W16i, W64i, if_ps, if_ng, and_tr, fil_n1, fil_in, fil_out, le_tt, le_ff, lt_tt, lt_ff, eq_tt, eq_ff, M242, M240, hl, mn, im, ii, ss, ex0]
      · simp only [if_neg c1] at im
        have p : pIn f l j = false := decide_eq_false (fun x => c1 x.1)
        rw [L242_13]
        rw [p, Bool.false_and, zb1_f]
        simp (disch := omega) only [bcd, true_and, and_true, and_self, if_true, if_false, ite_true, ite_false, reduceIte, Int.reduceEq, Int.reduceNe, Int.reduceLT, Int.reduceLE, Int.reduceAdd, Int.reduceSub, Int.reduceMul, Int.reduceNeg, Int.reduceMod, Int.reduceDiv, Int.reduceToNat, Nat.reduceAdd, Nat.reduceLeDiff, List.length_cons, List.length_nil, not_false_eq_true, not_true_eq_false, ne_eq, or_false, false_or, or_self, false_and, and_false, or_true, true_or, ite_self, Int.add_sub_cancel, Int.sub_add_cancel, b_lc1, b_lc2, b_lc3, b_lc4, b_lc5, up_eq, up_ei, up_n1, up_n2, W32i, W8i, W16i, W64i, if_ps, if_ng, and_tr, fil_n1, fil_in, fil_out, le_tt, le_ff, lt_tt, lt_ff, eq_tt, eq_ff, M242, M240, hl, mn, im, ss, ex0]
  have := lp (nc f l).toNat 0 (by omega)
  rw [wi] at this
  simp (disch := omega) only [bcd, true_and, and_true, and_self, if_true, if_false, ite_true, ite_false, reduceIte, Int.reduceEq, Int.reduceNe, Int.reduceLT, Int.reduceLE, Int.reduceAdd, Int.reduceSub, Int.reduceMul, Int.reduceNeg, Int.reduceMod, Int.reduceDiv, Int.reduceToNat, Nat.reduceAdd, Nat.reduceLeDiff, List.length_cons, List.length_nil, not_false_eq_true, not_true_eq_false, ne_eq, or_false, false_or, or_self, false_and, and_false, or_true, true_or, ite_self, Int.add_sub_cancel, Int.sub_add_cancel, b_lc1, b_lc2, b_lc3, b_lc4, b_lc5, up_eq, up_ei, up_n1, up_n2, W32i, W8i, W16i, W64i, if_ps, if_ng, and_tr, fil_n1, fil_in, fil_out, le_tt, le_ff, lt_tt, lt_ff, eq_tt, eq_ff, M242, hl]
  exact this
def pInt (f : F) (l a b : Int) (i : Nat) : Bool := decide (cI f (wi f l i) a b)
theorem x_areInts {S : Sto} {f : F} (h : XD S f) (l a b : Int) (l0 : 0 ≤ l) (l1 : l < fsize f) (h2 : nf f l = 2) (Q : ZQ) : zCall Cd 245 8 [(33, 33), (0, l), (1, a), (1, b)] S Q = Q S (0, zb1 (zall (pInt f l a b) (nc f l).toNat 0)) := by
  have sz := h.sz
  have cb := nc_b h.v sz l0 l1 h2
  have mn := fun Q => x_many h l l0 l1 (by omega) Q
  have ex0 : ∀ (c j : Nat), (j : Int) + c = nc f l → zG Cd 245 (Cd 245 6) [(33, 33), (0, l), (1, a), (9, 0), (1, b), (9, 0), (0, 0), (0, (j : Int))] [] S Q = Q S (0, 0) := by
    intro c
    induction c with
    | zero =>
      intro j hj
      rw [L245_6]
      simp (disch := omega) only [bcd, true_and, and_true, and_self, if_true, if_false, ite_true, ite_false, reduceIte, Int.reduceEq, Int.reduceNe, Int.reduceLT, Int.reduceLE, Int.reduceAdd, Int.reduceSub, Int.reduceMul, Int.reduceNeg, Int.reduceMod, Int.reduceDiv, Int.reduceToNat, Nat.reduceAdd, Nat.reduceLeDiff, List.length_cons, List.length_nil, not_false_eq_true, not_true_eq_false, ne_eq, or_false, false_or, or_self, false_and, and_false, or_true, true_or, ite_self, Int.add_sub_cancel, Int.sub_add_cancel, b_lc1, b_lc2, b_lc3, b_lc4, b_lc5, up_eq, up_ei, up_n1, up_n2, W32i, W8i, W16i, W64i, if_ps, if_ng, and_tr, fil_n1, fil_in, fil_out, le_tt, le_ff, lt_tt, lt_ff, eq_tt, eq_ff, M245, mn]
    | succ c ih =>
      intro j hj
      have I := ih (j + 1) (by omega)
      rw [show ((j + 1 : Nat) : Int) = (j : Int) + 1 by omega] at I
      rw [L245_6]
      simp (disch := omega) only [bcd, true_and, and_true, and_self, if_true, if_false, ite_true, ite_false, reduceIte, Int.reduceEq, Int.reduceNe, Int.reduceLT, Int.reduceLE, Int.reduceAdd, Int.reduceSub, Int.reduceMul, Int.reduceNeg, Int.reduceMod, Int.reduceDiv, Int.reduceToNat, Nat.reduceAdd, Nat.reduceLeDiff, List.length_cons, List.length_nil, not_false_eq_true, not_true_eq_false, ne_eq, or_false, false_or, or_self, false_and, and_false, or_true, true_or, ite_self, Int.add_sub_cancel, Int.sub_add_cancel, b_lc1, b_lc2, b_lc3, b_lc4, b_lc5, up_eq, up_ei, up_n1, up_n2, W32i, W8i, W16i, W64i, if_ps, if_ng, and_tr, fil_n1, fil_in, fil_out, le_tt, le_ff, lt_tt, lt_ff, eq_tt, eq_ff, M245, mn, I]
  have lp : ∀ (c j : Nat), (j : Int) + c = nc f l → zG Cd 245 (Cd 245 6) [(33, 33), (0, l), (1, a), (9, 0), (1, b), (9, 0), (0, 1), (0, (j : Int))] [] S Q = Q S (0, zb1 (zall (pInt f l a b) c j)) := by
    intro c
    induction c with
    | zero =>
      intro j hj
      rw [L245_6, zall, zb1_t]
      simp (disch := omega) only [bcd, true_and, and_true, and_self, if_true, if_false, ite_true, ite_false, reduceIte, Int.reduceEq, Int.reduceNe, Int.reduceLT, Int.reduceLE, Int.reduceAdd, Int.reduceSub, Int.reduceMul, Int.reduceNeg, Int.reduceMod, Int.reduceDiv, Int.reduceToNat, Nat.reduceAdd, Nat.reduceLeDiff, List.length_cons, List.length_nil, not_false_eq_true, not_true_eq_false, ne_eq, or_false, false_or, or_self, false_and, and_false, or_true, true_or, ite_self, Int.add_sub_cancel, Int.sub_add_cancel, b_lc1, b_lc2, b_lc3, b_lc4, b_lc5, up_eq, up_ei, up_n1, up_n2, W32i, W8i, W16i, W64i, if_ps, if_ng, and_tr, fil_n1, fil_in, fil_out, le_tt, le_ff, lt_tt, lt_ff, eq_tt, eq_ff, M245, mn]
    | succ c ih =>
      intro j hj
      obtain ⟨a1, a2, a3⟩ := wi_l h.v l0 l1 h2 j (by omega)
      have I := ih (j + 1) (by omega)
      have E := ex0 c (j + 1) (by omega)
      rw [show ((j + 1 : Nat) : Int) = (j : Int) + 1 by omega] at I E
      have wt := fun Q => x_within h l (j : Int) l0 l1 (by omega) (by omega) Q
      rw [show ((j : Int)).toNat = j by omega] at wt
      have iw := fun Q => x_isWithin h (wi f l j) a b (by omega) a2 Q
      rw [zall]
      by_cases c1 : cI f (wi f l j) a b
      · simp only [if_pos c1] at iw
        have p : pInt f l a b j = true := decide_eq_true c1
        rw [L245_6]
        rw [p, Bool.true_and]
        simp (disch := omega) only [bcd, true_and, and_true, and_self, if_true, if_false, ite_true, ite_false, reduceIte, Int.reduceEq, Int.reduceNe, Int.reduceLT, Int.reduceLE, Int.reduceAdd, Int.reduceSub, Int.reduceMul, Int.reduceNeg, Int.reduceMod, Int.reduceDiv, Int.reduceToNat, Nat.reduceAdd, Nat.reduceLeDiff, List.length_cons, List.length_nil, not_false_eq_true, not_true_eq_false, ne_eq, or_false, false_or, or_self, false_and, and_false, or_true, true_or, ite_self, Int.add_sub_cancel, Int.sub_add_cancel, b_lc1, b_lc2, b_lc3, b_lc4, b_lc5, up_eq, up_ei, up_n1, up_n2, W32i, W8i, W16i, W64i, if_ps, if_ng, and_tr, fil_n1, fil_in, fil_out, le_tt, le_ff, lt_tt, lt_ff, eq_tt, eq_ff, M245, mn, wt, iw, I]
      · simp only [if_neg c1] at iw
        have p : pInt f l a b j = false := decide_eq_false c1
        rw [L245_6]
        rw [p, Bool.false_and, zb1_f]
        simp (disch := omega) only [bcd, true_and, and_true, and_self, if_true, if_false, ite_true, ite_false, reduceIte, Int.reduceEq, Int.reduceNe, Int.reduceLT, Int.reduceLE, Int.reduceAdd, Int.reduceSub, Int.reduceMul, Int.reduceNeg, Int.reduceMod, Int.reduceDiv, Int.reduceToNat, Nat.reduceAdd, Nat.reduceLeDiff, List.length_cons, List.length_nil, not_false_eq_true, not_true_eq_false, ne_eq, or_false, false_or, or_self, false_and, and_false, or_true, true_or, ite_self, Int.add_sub_cancel, Int.sub_add_cancel, b_lc1, b_lc2, b_lc3, b_lc4, b_lc5, up_eq, up_ei, up_n1, up_n2, W32i, W8i, W16i, W64i, if_ps, if_ng, and_tr, fil_n1, fil_in, fil_out, le_tt, le_ff, lt_tt, lt_ff, eq_tt, eq_ff, M245, mn, wt, iw, E]
  have := lp (nc f l).toNat 0 (by omega)
  simp (disch := omega) only [bcd, true_and, and_true, and_self, if_true, if_false, ite_true, ite_false, reduceIte, Int.reduceEq, Int.reduceNe, Int.reduceLT, Int.reduceLE, Int.reduceAdd, Int.reduceSub, Int.reduceMul, Int.reduceNeg, Int.reduceMod, Int.reduceDiv, Int.reduceToNat, Nat.reduceAdd, Nat.reduceLeDiff, List.length_cons, List.length_nil, not_false_eq_true, not_true_eq_false, ne_eq, or_false, false_or, or_self, false_and, and_false, or_true, true_or, ite_self, Int.add_sub_cancel, Int.sub_add_cancel, b_lc1, b_lc2, b_lc3, b_lc4, b_lc5, up_eq, up_ei, up_n1, up_n2, W32i, W8i, W16i, W64i, if_ps, if_ng, and_tr, fil_n1, fil_in, fil_out, le_tt, le_ff, lt_tt, lt_ff, eq_tt, eq_ff, M245]
  exact this
