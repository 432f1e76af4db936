-- uses: 66
def pRis (f : F) (l : Int) (i : Nat) : Bool := decide (nt f (wi f l (i - 1)) < nt f (wi f l i))
theorem x_areRis {S : Sto} {f : F} (h : XD S f) (l : Int) (l0 : 0 ≤ l) (l1 : l < fsize f) (h2 : nf f l = 2) (hi : ∀ j : Nat, (j : Int) < nc f l → nf f (wi f l j) = 3) (Q : ZQ) : zCall Cd 253 4 [(33, 33), (0, l)] S Q = Q S (0, zb1 (zall (pRis f l) (nc f l - 1).toNat 1)) := by
  have sz := h.sz
  have cb := nc_b h.v sz l0 l1 h2
  have mn := fun Q => x_many h l l0 l1 (by omega) Q
  have ex0 : ∀ (c j : Nat), (j : Int) + c = nc f l → 1 ≤ j → zG Cd 253 (Cd 253 4) [(33, 33), (0, l), (0, 0), (0, (j : Int))] [] S Q = Q S (0, 0) := by
    intro c
    induction c with
    | zero =>
      intro j hj _
      rw [L253_4]
      simp (disch := omega) only [bcd, true_and, and_true, and_self, if_true, if_false, ite_true, ite_false, reduceIte, Int.reduceEq, Int.reduceNe, Int.reduceLT, Int.reduceLE, Int.reduceAdd, Int.reduceSub, Int.reduceMul, Int.reduceNeg, Int.reduceMod, Int.reduceDiv, Int.reduceToNat, Nat.reduceAdd, Nat.reduceLeDiff, List.length_cons, List.length_nil, not_false_eq_true, not_true_eq_false, ne_eq, or_false, false_or, or_self, false_and, and_false, or_true, true_or, ite_self, Int.add_sub_cancel, Int.sub_add_cancel, b_lc1, b_lc2, b_lc3, b_lc4, b_lc5, up_eq, up_ei, up_n1, up_n2, W32i, W8i, W16i, W64i, if_ps, if_ng, and_tr, fil_n1, fil_in, fil_out, le_tt, le_ff, lt_tt, lt_ff, eq_tt, eq_ff, M253, mn]
    | succ c ih =>
      intro j hj _
      have I := ih (j + 1) (by omega) (by omega)
      rw [show ((j + 1 : Nat) : Int) = (j : Int) + 1 by omega] at I
      rw [L253_4]
      simp (disch := omega) only [bcd, true_and, and_true, and_self, if_true, if_false, ite_true, ite_false, reduceIte, Int.reduceEq, Int.reduceNe, Int.reduceLT, Int.reduceLE, Int.reduceAdd, Int.reduceSub, Int.reduceMul, Int.reduceNeg, Int.reduceMod, Int.reduceDiv, Int.reduceToNat, Nat.reduceAdd, Nat.reduceLeDiff, List.length_cons, List.length_nil, not_false_eq_true, not_true_eq_false, ne_eq, or_false, false_or, or_self, false_and, and_false, or_true, true_or, ite_self, Int.add_sub_cancel, Int.sub_add_cancel, b_lc1, b_lc2, b_lc3, b_lc4, b_lc5, up_eq, up_ei, up_n1, up_n2, W32i, W8i, W16i, W64i, if_ps, if_ng, and_tr, fil_n1, fil_in, fil_out, le_tt, le_ff, lt_tt, lt_ff, eq_tt, eq_ff, M253, mn, I]
  have lp : ∀ (c j : Nat), (j : Int) + c = nc f l → 1 ≤ j → zG Cd 253 (Cd 253 4) [(33, 33), (0, l), (0, 1), (0, (j : Int))] [] S Q = Q S (0, zb1 (zall (pRis f l) c j)) := by
    intro c
    induction c with
    | zero =>
      intro j hj _
      rw [L253_4, zall, zb1_t]
      simp (disch := omega) only [bcd, true_and, and_true, and_self, if_true, if_false, ite_true, ite_false, reduceIte, Int.reduceEq, Int.reduceNe, Int.reduceLT, Int.reduceLE, Int.reduceAdd, Int.reduceSub, Int.reduceMul, Int.reduceNeg, Int.reduceMod, Int.reduceDiv, Int.reduceToNat, Nat.reduceAdd, Nat.reduceLeDiff, List.length_cons, List.length_nil, not_false_eq_true, not_true_eq_false, ne_eq, or_false, false_or, or_self, false_and, and_false, or_true, true_or, ite_self, Int.add_sub_cancel, Int.sub_add_cancel, b_lc1, b_lc2, b_lc3, b_lc4, b_lc5, up_eq, up_ei, up_n1, up_n2, W32i, W8i, W16i, W64i, if_ps, if_ng, and_tr, fil_n1, fil_in, fil_out, le_tt, le_ff, lt_tt, lt_ff, eq_tt, eq_ff, M253, mn]
    | succ c ih =>
      intro j hj j1
      obtain ⟨a1, a2, a3⟩ := wi_l h.v l0 l1 h2 j (by omega)
      obtain ⟨b1, b2, b3⟩ := wi_l h.v l0 l1 h2 (j - 1) (by omega)
      have I := ih (j + 1) (by omega) (by omega)
      have E := ex0 c (j + 1) (by omega) (by omega)
      rw [show ((j + 1 : Nat) : Int) = (j : Int) + 1 by omega] at I E
      have wt := fun Q => x_within h l (j : Int) l0 l1 (by omega) (by omega) Q
      rw [show ((j : Int)).toNat = j by omega] at wt
      have wt' := fun Q => x_within h l ((j : Int) - 1) l0 l1 (by omega) (by omega) Q
      rw [show ((j : Int) - 1).toNat = j - 1 by omega] at wt'
      have xv := fun Q => x_value h (wi f l j) (by omega) a2 Q
      have xv' := fun Q => x_value h (wi f l (j - 1)) (by omega) b2 Q
      simp only [if_pos (hi j (by omega))] at xv
      simp only [if_pos (hi (j - 1) (by omega))] at xv'
      rw [zall]
      by_cases c1 : nt f (wi f l (j - 1)) < nt f (wi f l j)
      · have p : pRis f l j = true := decide_eq_true c1
        rw [p, Bool.true_and, L253_4]
        simp (disch := omega) only [bcd, true_and, and_true, and_self, if_true, if_false, ite_true, ite_false, reduceIte, Int.reduceEq, Int.reduceNe, Int.reduceLT, Int.reduceLE, Int.reduceAdd, Int.reduceSub, Int.reduceMul, Int.reduceNeg, Int.reduceMod, Int.reduceDiv, Int.reduceToNat, Nat.reduceAdd, Nat.reduceLeDiff, List.length_cons, List.length_nil, not_false_eq_true, not_true_eq_false, ne_eq, or_false, false_or, or_self, false_and, and_false, or_true, true_or, ite_self, Int.add_sub_cancel, Int.sub_add_cancel, b_lc1, b_lc2, b_lc3, b_lc4, b_lc5, up_eq, up_ei, up_n1, up_n2, W32i, W8i, W16i, W64i, if_ps, if_ng, and_tr, fil_n1, fil_in, fil_out, le_tt, le_ff, lt_tt, lt_ff, eq_tt, eq_ff, M253, mn, wt, wt', xv, xv', I]
      · have p : pRis f l j = false := decide_eq_false c1
        rw [p, Bool.false_and, zb1_f, L253_4]
        simp (disch := omega) only [bcd, true_and, and_true, and_self, if_true, if_false, ite_true, ite_false, reduceIte, Int.reduceEq, Int.reduceNe, Int.reduceLT, Int.reduceLE, Int.reduceAdd, Int.reduceSub, Int.reduceMul, Int.reduceNeg, Int.reduceMod, Int.reduceDiv, Int.reduceToNat, Nat.reduceAdd, Nat.reduceLeDiff, List.length_cons, List.length_nil, not_false_eq_true, not_true_eq_false, ne_eq, or_false, false_or, or_self, false_and, and_false, or_true, true_or, ite_self, Int.add_sub_cancel, Int.sub_add_cancel, b_lc1, b_lc2, b_lc3, b_lc4, b_lc5, up_eq, up_ei, up_n1, up_n2, W32i, W8i, W16i, W64i, if_ps, if_ng, and_tr, fil_n1, fil_in, fil_out, le_tt, le_ff, lt_tt, lt_ff, eq_tt, eq_ff, M253, mn, wt, wt', xv, xv', E]
  by_cases z : nc f l = 0
  · rw [show (nc f l - 1).toNat = 0 by omega, zall, zb1_t]
    simp (disch := omega) only [bcd, true_and, and_true, and_self, if_true, if_false, ite_true, ite_false, reduceIte, Int.reduceEq, Int.reduceNe, Int.reduceLT, Int.reduceLE, Int.reduceAdd, Int.reduceSub, Int.reduceMul, Int.reduceNeg, Int.reduceMod, Int.reduceDiv, Int.reduceToNat, Nat.reduceAdd, Nat.reduceLeDiff, List.length_cons, List.length_nil, not_false_eq_true, not_true_eq_false, ne_eq, or_false, false_or, or_self, false_and, and_false, or_true, true_or, ite_self, Int.add_sub_cancel, Int.sub_add_cancel, b_lc1, b_lc2, b_lc3, b_lc4, b_lc5, up_eq, up_ei, up_n1, up_n2, W32i, W8i, W16i, W64i, if_ps, if_ng, and_tr, fil_n1, fil_in, fil_out, le_tt, le_ff, lt_tt, lt_ff, eq_tt, eq_ff, M253, L253_4, mn, z]
  · have := lp (nc f l - 1).toNat 1 (by omega) (by omega)
    simp (disch := omega) only [bcd, true_and, and_true, and_self, if_true, if_false, ite_true, ite_false, reduceIte, Int.reduceEq, Int.reduceNe, Int.reduceLT, Int.reduceLE, Int.reduceAdd, Int.reduceSub, Int.reduceMul, Int.reduceNeg, Int.reduceMod, Int.reduceDiv, Int.reduceToNat, Nat.reduceAdd, Nat.reduceLeDiff, List.length_cons, List.length_nil, not_false_eq_true, not_true_eq_false, ne_eq, or_false, false_or, or_self, false_and, and_false, or_true, true_or, ite_self, Int.add_sub_cancel, Int.sub_add_cancel, b_lc1, b_lc2, b_lc3, b_lc4, b_lc5, up_eq, up_ei, up_n1, up_n2, W32i, W8i, W16i, W64i, if_ps, if_ng, and_tr, fil_n1, fil_in, fil_out, le_tt, le_ff, lt_tt, lt_ff, eq_tt, eq_ff, M253]
    exact this
/-! an address -/
abbrev pAd (f : F) (n sc : Int) : Prop := cM f n 0 1 ∧ cI f (n + 1) 0 255 ∨ cM f n 1 1 ∧ cI f (n + 1) 0 (sc - 1)
theorem x_isAddr {S : Sto} {f : F} (h : XD S f) (n sc : Int) (hs : S 33 2 = sc) (s0 : 0 ≤ sc ∧ sc ≤ 32) (n0 : 0 ≤ n) (n1 : n < fsize f) (Q : ZQ) : zCall Cd 248 2 [(33, 33), (0, n)] S Q = Q S (0, if pAd f n sc then 1 else 0) := by
  have sz := h.sz
  have m0 := fun Q => x_isMade h n 0 1 n0 n1 Q
  have m1 := fun Q => x_isMade h n 1 1 n0 n1 Q
  unfold pAd
  by_cases a : cM f n 0 1
  · have nk := nk_in h.v n0 n1 (Or.inl a.1) a.2.2
    have i0 := fun Q => x_isWithin h (n + 1) 0 255 (by omega) (by omega) Q
    have b : ¬ cM f n 1 1 := fun x => by have := a.2.1; have := x.2.1; omega
    simp only [if_pos a] at m0
    simp only [if_neg b] at m1
    by_cases c : cI f (n + 1) 0 255
    · simp only [if_pos c] at i0
      rw [if_pos (Or.inl ⟨a, c⟩)]
      simp (disch := omega) only [bcd, true_and, and_true, and_self, if_true, if_false, ite_true, ite_false, reduceIte, Int.reduceEq, Int.reduceNe, Int.reduceLT, Int.reduceLE, Int.reduceAdd, Int.reduceSub, Int.reduceMul, Int.reduceNeg, Int.reduceMod, Int.reduceDiv, Int.reduceToNat, Nat.reduceAdd, Nat.reduceLeDiff, List.length_cons, List.length_nil, not_false_eq_true, not_true_eq_false, ne_eq, or_false, false_or, or_self, false_and, and_false, or_true, true_or, ite_self, Int.add_sub_cancel, Int.sub_add_cancel, b_lc1, b_lc2, b_lc3, b_lc4, b_lc5, up_eq, up_ei, up_n1, up_n2, W32i, W8i, W16i, W64i, if_ps, if_ng, and_tr, fil_n1, fil_in, fil_out, le_tt, le_ff, lt_tt, lt_ff, eq_tt, eq_ff, M248, m0, m1, i0, hs]
    · simp only [if_neg c] at i0
      rw [if_neg (fun x => x.elim (fun y => c y.2) (fun y => b y.1))]
      simp (disch := omega) only [bcd, true_and, and_true, and_self, if_true, if_false, ite_true, ite_false, reduceIte, Int.reduceEq, Int.reduceNe, Int.reduceLT, Int.reduceLE, Int.reduceAdd, Int.reduceSub, Int.reduceMul, Int.reduceNeg, Int.reduceMod, Int.reduceDiv, Int.reduceToNat, Nat.reduceAdd, Nat.reduceLeDiff, List.length_cons, List.length_nil, not_false_eq_true, not_true_eq_false, ne_eq, or_false, false_or, or_self, false_and, and_false, or_true, true_or, ite_self, Int.add_sub_cancel, Int.sub_add_cancel, b_lc1, b_lc2, b_lc3, b_lc4, b_lc5, up_eq, up_ei, up_n1, up_n2, W32i, W8i, W16i, W64i, if_ps, if_ng, and_tr, fil_n1, fil_in, fil_out, le_tt, le_ff, lt_tt, lt_ff, eq_tt, eq_ff, M248, m0, m1, i0, hs]
  · simp only [if_neg a] at m0
    by_cases b : cM f n 1 1
    · have nk := nk_in h.v n0 n1 (Or.inl b.1) b.2.2
      have i1 := fun Q => x_isWithin h (n + 1) 0 (sc - 1) (by omega) (by omega) Q
      simp only [if_pos b] at m1
      by_cases c : cI f (n + 1) 0 (sc - 1)
      · simp only [if_pos c] at i1
        rw [if_pos (Or.inr ⟨b, c⟩)]
        simp (disch := omega) only [bcd, true_and, and_true, and_self, if_true, if_false, ite_true, ite_false, reduceIte, Int.reduceEq, Int.reduceNe, Int.reduceLT, Int.reduceLE, Int.reduceAdd, Int.reduceSub, Int.reduceMul, Int.reduceNeg, Int.reduceMod, Int.reduceDiv, Int.reduceToNat, Nat.reduceAdd, Nat.reduceLeDiff, List.length_cons, List.length_nil, not_false_eq_true, not_true_eq_false, ne_eq, or_false, false_or, or_self, false_and, and_false, or_true, true_or, ite_self, Int.add_sub_cancel, Int.sub_add_cancel, b_lc1, b_lc2, b_lc3, b_lc4, b_lc5, up_eq, up_ei, up_n1, up_n2, W32i, W8i, W16i, W64i, if_ps, if_ng, and_tr, fil_n1, fil_in, fil_out, le_tt, le_ff, lt_tt, lt_ff, eq_tt, eq_ff, M248, m0, m1, i1, hs]
      · simp only [if_neg c] at i1
        rw [if_neg (fun x => x.elim (fun y => a y.1) (fun y => c y.2))]
        simp (disch := omega) only [bcd, true_and, and_true, and_self, if_true, if_false, ite_true, ite_false, reduceIte, Int.reduceEq, Int.reduceNe, Int.reduceLT, Int.reduceLE, Int.reduceAdd, Int.reduceSub, Int.reduceMul, Int.reduceNeg, Int.reduceMod, Int.reduceDiv, Int.reduceToNat, Nat.reduceAdd, Nat.reduceLeDiff, List.length_cons, List.length_nil, not_false_eq_true, not_true_eq_false, ne_eq, or_false, false_or, or_self, false_and, and_false, or_true, true_or, ite_self, Int.add_sub_cancel, Int.sub_add_cancel, b_lc1, b_lc2, b_lc3, b_lc4, b_lc5, up_eq, up_ei, up_n1, up_n2, W32i, W8i, W16i, W64i, if_ps, if_ng, and_tr, fil_n1, fil_in, fil_out, le_tt, le_ff, lt_tt, lt_ff, eq_tt, eq_ff, M248, m0, m1, i1, hs]
    · simp only [if_neg b] at m1
      rw [if_neg (fun x => x.elim (fun y => a y.1) (fun y => b y.1))]
      simp (disch := omega) only [bcd, true_and, and_true, and_self, if_true, if_false, ite_true, ite_false, reduceIte, Int.reduceEq, Int.reduceNe, Int.reduceLT, Int.reduceLE, Int.reduceAdd, Int.reduceSub, Int.reduceMul, Int.reduceNeg, Int.reduceMod, Int.reduceDiv, Int.reduceToNat, Nat.reduceAdd, Nat.reduceLeDiff, List.length_cons, List.length_nil, not_false_eq_true, not_true_eq_false, ne_eq, or_false, false_or, or_self, false_and, and_false, or_true, true_or, ite_self, Int.add_sub_cancel, Int.sub_add_cancel, b_lc1, b_lc2, b_lc3, b_lc4, b_lc5, up_eq, up_ei, up_n1, up_n2, W32i, W8i, W16i, W64i, if_ps, if_ng, and_tr, fil_n1, fil_in, fil_out, le_tt, le_ff, lt_tt, lt_ff, eq_tt, eq_ff, M248, m0, m1, hs]
theorem m_isAddr {S : Sto} {f : F} (h : MD S f) (n sc : Int) (hs : S 34 3 = sc) (s0 : 0 ≤ sc ∧ sc ≤ 32) (n0 : 0 ≤ n) (n1 : n < fsize f) (Q : ZQ) : zCall Cd 288 3 [(34, 34), (0, n)] S Q = Q S (0, if pAd f n sc then 1 else 0) := by
  have sz := h.sz
  have m0 := fun Q => m_isCon h n 0 1 n0 n1 Q
  have m1 := fun Q => m_isCon h n 1 1 n0 n1 Q
  unfold pAd
  by_cases a : cM f n 0 1
  · have nk := nk_in h.v n0 n1 (Or.inl a.1) a.2.2
    have i0 := fun Q => m_isInt h (n + 1) 0 255 (by omega) (by omega) Q
    have b : ¬ cM f n 1 1 := fun x => by have := a.2.1; have := x.2.1; omega
    simp only [if_pos a] at m0
    simp only [if_neg b] at m1
    by_cases c : cI f (n + 1) 0 255
    · simp only [if_pos c] at i0
      rw [if_pos (Or.inl ⟨a, c⟩)]
      simp (disch := omega) only [bcd, true_and, and_true, and_self, if_true, if_false, ite_true, ite_false, reduceIte, Int.reduceEq, Int.reduceNe, Int.reduceLT, Int.reduceLE, Int.reduceAdd, Int.reduceSub, Int.reduceMul, Int.reduceNeg, Int.reduceMod, Int.reduceDiv, Int.reduceToNat, Nat.reduceAdd, Nat.reduceLeDiff, List.length_cons, List.length_nil, not_false_eq_true, not_true_eq_false, ne_eq, or_false, false_or, or_self, false_and, and_false, or_true, true_or, ite_self, Int.add_sub_cancel, Int.sub_add_cancel, b_lc1, b_lc2, b_lc3, b_lc4, b_lc5, up_eq, up_ei, up_n1, up_n2, W32i, W8i, W16i, W64i, if_ps, if_ng, and_tr, fil_n1, fil_in, fil_out, le_tt, le_ff, lt_tt, lt_ff, eq_tt, eq_ff, M288, m0, m1, i0, hs]
    · simp only [if_neg c] at i0
      rw [if_neg (fun x => x.elim (fun y => c y.2) (fun y => b y.1))]
      simp (disch := omega) only [bcd, true_and, and_true, and_self, if_true, if_false, ite_true, ite_false, reduceIte, Int.reduceEq, Int.reduceNe, Int.reduceLT, Int.reduceLE, Int.reduceAdd, Int.reduceSub, Int.reduceMul, Int.reduceNeg, Int.reduceMod, Int.reduceDiv, Int.reduceToNat, Nat.reduceAdd, Nat.reduceLeDiff, List.length_cons, List.length_nil, not_false_eq_true, not_true_eq_false, ne_eq, or_false, false_or, or_self, false_and, and_false, or_true, true_or, ite_self, Int.add_sub_cancel, Int.sub_add_cancel, b_lc1, b_lc2, b_lc3, b_lc4, b_lc5, up_eq, up_ei, up_n1, up_n2, W32i, W8i, W16i, W64i, if_ps, if_ng, and_tr, fil_n1, fil_in, fil_out, le_tt, le_ff, lt_tt, lt_ff, eq_tt, eq_ff, M288, m0, m1, i0, hs]
  · simp only [if_neg a] at m0
    by_cases b : cM f n 1 1
    · have nk := nk_in h.v n0 n1 (Or.inl b.1) b.2.2
      have i1 := fun Q => m_isInt h (n + 1) 0 (sc - 1) (by omega) (by omega) Q
      simp only [if_pos b] at m1
      by_cases c : cI f (n + 1) 0 (sc - 1)
      · simp only [if_pos c] at i1
        rw [if_pos (Or.inr ⟨b, c⟩)]
        simp (disch := omega) only [bcd, true_and, and_true, and_self, if_true, if_false, ite_true, ite_false, reduceIte, Int.reduceEq, Int.reduceNe, Int.reduceLT, Int.reduceLE, Int.reduceAdd, Int.reduceSub, Int.reduceMul, Int.reduceNeg, Int.reduceMod, Int.reduceDiv, Int.reduceToNat, Nat.reduceAdd, Nat.reduceLeDiff, List.length_cons, List.length_nil, not_false_eq_true, not_true_eq_false, ne_eq, or_false, false_or, or_self, false_and, and_false, or_true, true_or, ite_self, Int.add_sub_cancel, Int.sub_add_cancel, b_lc1, b_lc2, b_lc3, b_lc4, b_lc5, up_eq, up_ei, up_n1, up_n2, W32i, W8i, W16i, W64i, if_ps, if_ng, and_tr, fil_n1, fil_in, fil_out, le_tt, le_ff, lt_tt, lt_ff, eq_tt, eq_ff, M288, m0, m1, i1, hs]
      · simp only [if_neg c] at i1
        rw [if_neg (fun x => x.elim (fun y => a y.1) (fun y => c y.2))]
        simp (disch := omega) only [bcd, true_and, and_true, and_self, if_true, if_false, ite_true, ite_false, reduceIte, Int.reduceEq, Int.reduceNe, Int.reduceLT, Int.reduceLE, Int.reduceAdd, Int.reduceSub, Int.reduceMul, Int.reduceNeg, Int.reduceMod, Int.reduceDiv, Int.reduceToNat, Nat.reduceAdd, Nat.reduceLeDiff, List.length_cons, List.length_nil, not_false_eq_true, not_true_eq_false, ne_eq, or_false, false_or, or_self, false_and, and_false, or_true, true_or, ite_self, Int.add_sub_cancel, Int.sub_add_cancel, b_lc1, b_lc2, b_lc3, b_lc4, b_lc5, up_eq, up_ei, up_n1, up_n2, W32i, W8i, W16i, W64i, if_ps, if_ng, and_tr, fil_n1, fil_in, fil_out, le_tt, le_ff, lt_tt, lt_ff, eq_tt, eq_ff, M288, m0, m1, i1, hs]
    · simp only [if_neg b] at m1
      rw [if_neg (fun x => x.elim (fun y => a y.1) (fun y => b y.1))]
      simp (disch := omega) only [bcd, true_and, and_true, and_self, if_true, if_false, ite_true, ite_false, reduceIte, Int.reduceEq, Int.reduceNe, Int.reduceLT, Int.reduceLE, Int.reduceAdd, Int.reduceSub, Int.reduceMul, Int.reduceNeg, Int.reduceMod, Int.reduceDiv, Int.reduceToNat, Nat.reduceAdd, Nat.reduceLeDiff, List.length_cons, List.length_nil, not_false_eq_true, not_true_eq_false, ne_eq, or_false, false_or, or_self, false_and, and_false, or_true, true_or, ite_self, Int.add_sub_cancel, Int.sub_add_cancel, b_lc1, b_lc2, b_lc3, b_lc4, b_lc5, up_eq, up_ei, up_n1, up_n2, W32i, W8i, W16i, W64i, if_ps, if_ng, and_tr, fil_n1, fil_in, fil_out, le_tt, le_ff, lt_tt, lt_ff, eq_tt, eq_ff, M288, m0, m1, hs]
