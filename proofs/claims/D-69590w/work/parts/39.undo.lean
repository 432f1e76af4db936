-- uses: 38
/-! taking back -/
def arr (S : Sto) (a : Int) (g : Int → Int) : Sto := fun b j => if b = a then g j else S b j
theorem arr_eq (S : Sto) (a : Int) (g : Int → Int) : arr S a g a = g := by funext j; simp [arr]
theorem arr_n (S : Sto) (a : Int) (g : Int → Int) (b : Int) (h : b ≠ a) : arr S a g b = S b := by funext j; simp [arr, h]
theorem up_arr (S : Sto) (a i v b : Int) (g : Int → Int) (h : b ≠ a) : arr (up S a i v) b g = up (arr S b g) a i v := by
  funext c k; simp only [up, arr]; (repeat' split) <;> first | rfl | omega
theorem up_as_arr (S : Sto) (a i v : Int) : up S a i v = arr S a (fset (S a) i v) := by
  funext c k; simp only [up, arr, fset]; (repeat' split) <;> first | rfl | omega | simp_all
theorem arr_arr (S : Sto) (a : Int) (g g' : Int → Int) : arr (arr S a g) a g' = arr S a g' := by
  funext c k; simp only [arr]; split <;> rfl
def zunS (sp se : Int → Int) (hi : Int) : Nat → Int → Int
  | 0 => sp
  | c + 1 => fset (zunS sp se hi c) (se (hi - c - 1)) (-1)
theorem zunS_s (sp se : Int → Int) (hi : Int) : ∀ c, zunS (fset sp (se (hi - 1)) (-1)) se (hi - 1) c = zunS sp se hi (c + 1) := by
  intro c
  induction c with
  | zero => simp [zunS]
  | succ c ih => rw [zunS, ih, zunS.eq_def sp se hi (c + 1 + 1)]; simp only; congr 2; omega
theorem x_fgt_l (t : Int) (m : Int) : ∀ (c : Nat) (k : Int) (S : Sto) (Q : ZQ), 0 ≤ t → t < 1024 → S 64 t = m → k + c = m → 0 ≤ k → m ≤ 8 → c ≤ S 12 9 → S 12 9 ≤ 1024 → -1024 ≤ S 12 10 - c → S 12 10 ≤ 1024 →
    zG Cd 35 (Cd 35 23) [(11, 11), (0, t), (0, k)] [] S Q = zG Cd 35 (Cd 35 51) [(11, 11), (0, t), (0, 0)] [] (up (up S 12 9 (S 12 9 - c)) 12 10 (S 12 10 - c)) Q := by
  intro c
  induction c with
  | zero =>
    intro k S Q t0 t1 hm hk k0 h8 h1 h2 h3 h4
    rw [L35_23]
    simp (disch := omega) only [bcd, true_and, and_true, and_self, if_true, if_false, ite_true, ite_false, reduceIte, Int.reduceEq, Int.reduceNe, Int.reduceLT, Int.reduceLE, Int.reduceAdd, Int.reduceSub, Int.reduceMul, Int.reduceNeg, Int.reduceMod, Int.reduceDiv, Int.reduceToNat, Nat.reduceAdd, Nat.reduceLeDiff, List.length_cons, List.length_nil, not_false_eq_true, not_true_eq_false, ne_eq, or_false, false_or, or_self, false_and, and_false, or_true, true_or, ite_self, Int.add_sub_cancel, Int.sub_add_cancel, b_lc1, b_lc2, b_lc3, b_lc4, b_lc5, up_eq, up_ei, up_n1, up_n2, W32i, W8i, W16i, W64i, if_ps, if_ng, and_tr, fil_n1, fil_in, fil_out, M35, hm]
    rw [up_self _ 12 9 _ (by omega), up_self _ _ _ _ (by omega)]
  | succ c ih =>
    intro k S Q t0 t1 hm hk k0 h8 h1 h2 h3 h4
    rw [L35_23]
    simp (disch := omega) only [bcd, true_and, and_true, and_self, if_true, if_false, ite_true, ite_false, reduceIte, Int.reduceEq, Int.reduceNe, Int.reduceLT, Int.reduceLE, Int.reduceAdd, Int.reduceSub, Int.reduceMul, Int.reduceNeg, Int.reduceMod, Int.reduceDiv, Int.reduceToNat, Nat.reduceAdd, Nat.reduceLeDiff, List.length_cons, List.length_nil, not_false_eq_true, not_true_eq_false, ne_eq, or_false, false_or, or_self, false_and, and_false, or_true, true_or, ite_self, Int.add_sub_cancel, Int.sub_add_cancel, b_lc1, b_lc2, b_lc3, b_lc4, b_lc5, up_eq, up_ei, up_n1, up_n2, W32i, W8i, W16i, W64i, if_ps, if_ng, and_tr, fil_n1, fil_in, fil_out, hm, M53]
    rw [ih (k + 1) _ _ t0 t1 (by simp (disch := omega) only [true_and, and_true, and_self, if_true, if_false, ite_true, ite_false, reduceIte, Int.reduceEq, Int.reduceNe, Int.reduceLT, Int.reduceLE, Int.reduceAdd, Int.reduceSub, Int.reduceMul, Int.reduceNeg, Int.reduceMod, Int.reduceDiv, Int.reduceToNat, Nat.reduceAdd, Nat.reduceLeDiff, List.length_cons, List.length_nil, not_false_eq_true, not_true_eq_false, ne_eq, or_false, false_or, or_self, false_and, and_false, or_true, true_or, ite_self, Int.add_sub_cancel, Int.sub_add_cancel, b_lc1, b_lc2, b_lc3, b_lc4, b_lc5, up_eq, up_ei, up_n1, up_n2, W32i, W8i, W16i, W64i, if_ps, if_ng, and_tr, fil_n1, fil_in, fil_out, hm]) (by omega) (by omega) h8 (by simp (disch := omega) only [true_and, and_true, and_self, if_true, if_false, ite_true, ite_false, reduceIte, Int.reduceEq, Int.reduceNe, Int.reduceLT, Int.reduceLE, Int.reduceAdd, Int.reduceSub, Int.reduceMul, Int.reduceNeg, Int.reduceMod, Int.reduceDiv, Int.reduceToNat, Nat.reduceAdd, Nat.reduceLeDiff, List.length_cons, List.length_nil, not_false_eq_true, not_true_eq_false, ne_eq, or_false, false_or, or_self, false_and, and_false, or_true, true_or, ite_self, Int.add_sub_cancel, Int.sub_add_cancel, b_lc1, b_lc2, b_lc3, b_lc4, b_lc5, up_eq, up_ei, up_n1, up_n2, W32i, W8i, W16i, W64i, if_ps, if_ng, and_tr, fil_n1, fil_in, fil_out]; omega) (by simp (disch := omega) only [true_and, and_true, and_self, if_true, if_false, ite_true, ite_false, reduceIte, Int.reduceEq, Int.reduceNe, Int.reduceLT, Int.reduceLE, Int.reduceAdd, Int.reduceSub, Int.reduceMul, Int.reduceNeg, Int.reduceMod, Int.reduceDiv, Int.reduceToNat, Nat.reduceAdd, Nat.reduceLeDiff, List.length_cons, List.length_nil, not_false_eq_true, not_true_eq_false, ne_eq, or_false, false_or, or_self, false_and, and_false, or_true, true_or, ite_self, Int.add_sub_cancel, Int.sub_add_cancel, b_lc1, b_lc2, b_lc3, b_lc4, b_lc5, up_eq, up_ei, up_n1, up_n2, W32i, W8i, W16i, W64i, if_ps, if_ng, and_tr, fil_n1, fil_in, fil_out]; omega) (by simp (disch := omega) only [true_and, and_true, and_self, if_true, if_false, ite_true, ite_false, reduceIte, Int.reduceEq, Int.reduceNe, Int.reduceLT, Int.reduceLE, Int.reduceAdd, Int.reduceSub, Int.reduceMul, Int.reduceNeg, Int.reduceMod, Int.reduceDiv, Int.reduceToNat, Nat.reduceAdd, Nat.reduceLeDiff, List.length_cons, List.length_nil, not_false_eq_true, not_true_eq_false, ne_eq, or_false, false_or, or_self, false_and, and_false, or_true, true_or, ite_self, Int.add_sub_cancel, Int.sub_add_cancel, b_lc1, b_lc2, b_lc3, b_lc4, b_lc5, up_eq, up_ei, up_n1, up_n2, W32i, W8i, W16i, W64i, if_ps, if_ng, and_tr, fil_n1, fil_in, fil_out]; omega) (by simp (disch := omega) only [true_and, and_true, and_self, if_true, if_false, ite_true, ite_false, reduceIte, Int.reduceEq, Int.reduceNe, Int.reduceLT, Int.reduceLE, Int.reduceAdd, Int.reduceSub, Int.reduceMul, Int.reduceNeg, Int.reduceMod, Int.reduceDiv, Int.reduceToNat, Nat.reduceAdd, Nat.reduceLeDiff, List.length_cons, List.length_nil, not_false_eq_true, not_true_eq_false, ne_eq, or_false, false_or, or_self, false_and, and_false, or_true, true_or, ite_self, Int.add_sub_cancel, Int.sub_add_cancel, b_lc1, b_lc2, b_lc3, b_lc4, b_lc5, up_eq, up_ei, up_n1, up_n2, W32i, W8i, W16i, W64i, if_ps, if_ng, and_tr, fil_n1, fil_in, fil_out]; omega)]
    simp (disch := omega) only [true_and, and_true, and_self, if_true, if_false, ite_true, ite_false, reduceIte, Int.reduceEq, Int.reduceNe, Int.reduceLT, Int.reduceLE, Int.reduceAdd, Int.reduceSub, Int.reduceMul, Int.reduceNeg, Int.reduceMod, Int.reduceDiv, Int.reduceToNat, Nat.reduceAdd, Nat.reduceLeDiff, List.length_cons, List.length_nil, not_false_eq_true, not_true_eq_false, ne_eq, or_false, false_or, or_self, false_and, and_false, or_true, true_or, ite_self, Int.add_sub_cancel, Int.sub_add_cancel, b_lc1, b_lc2, b_lc3, b_lc4, b_lc5, up_eq, up_ei, up_n1, up_n2, W32i, W8i, W16i, W64i, if_ps, if_ng, and_tr, fil_n1, fil_in, fil_out]
    rw [up_xx _ _ _ _ _ _ _ _ _ (by omega), show S 12 9 - 1 - (c : Int) = S 12 9 - ((c + 1 : Nat) : Int) by omega, show S 12 10 - 1 - (c : Int) = S 12 10 - ((c + 1 : Nat) : Int) by omega]
theorem x_liv_l (t : Int) (m : Int) : ∀ (c : Nat) (k : Int) (S : Sto) (Q : ZQ), 0 ≤ t → t < 1024 → S 63 t = m → k + c = m → 0 ≤ k → m ≤ 8 → c ≤ S 13 1 → S 13 1 ≤ 1024 → -1024 ≤ S 12 10 → S 12 10 + c ≤ 2048 →
    (∀ s, S 13 1 - c ≤ s → s < S 13 1 → 0 ≤ S 62 s ∧ S 62 s < 1024) →
    zG Cd 35 (Cd 35 51) [(11, 11), (0, t), (0, k)] [] S Q = zG Cd 35 (Cd 35 105) [(11, 11), (0, t), (0, m)] [] (up (up (arr S 55 (zunS (S 55) (S 62) (S 13 1) c)) 13 1 (S 13 1 - c)) 12 10 (S 12 10 + c)) Q := by
  intro c
  induction c with
  | zero =>
    intro k S Q t0 t1 hm hk k0 h8 h1 h2 h3 h4 h5
    rw [L35_51]
    simp (disch := omega) only [bcd, true_and, and_true, and_self, if_true, if_false, ite_true, ite_false, reduceIte, Int.reduceEq, Int.reduceNe, Int.reduceLT, Int.reduceLE, Int.reduceAdd, Int.reduceSub, Int.reduceMul, Int.reduceNeg, Int.reduceMod, Int.reduceDiv, Int.reduceToNat, Nat.reduceAdd, Nat.reduceLeDiff, List.length_cons, List.length_nil, not_false_eq_true, not_true_eq_false, ne_eq, or_false, false_or, or_self, false_and, and_false, or_true, true_or, ite_self, Int.add_sub_cancel, Int.sub_add_cancel, b_lc1, b_lc2, b_lc3, b_lc4, b_lc5, up_eq, up_ei, up_n1, up_n2, W32i, W8i, W16i, W64i, if_ps, if_ng, and_tr, fil_n1, fil_in, fil_out, hm]
    have e : arr S 55 (zunS (S 55) (S 62) (S 13 1) 0) = S := by funext b j; simp only [arr, zunS]; split <;> simp_all
    rw [e, up_self _ 13 1 _ (by omega), up_self _ _ _ _ (by omega), show k = m by omega]
  | succ c ih =>
    intro k S Q t0 t1 hm hk k0 h8 h1 h2 h3 h4 h5
    have h6 := h5 (S 13 1 - 1) (by omega) (by omega)
    rw [L35_51]
    simp (disch := omega) only [bcd, true_and, and_true, and_self, if_true, if_false, ite_true, ite_false, reduceIte, Int.reduceEq, Int.reduceNe, Int.reduceLT, Int.reduceLE, Int.reduceAdd, Int.reduceSub, Int.reduceMul, Int.reduceNeg, Int.reduceMod, Int.reduceDiv, Int.reduceToNat, Nat.reduceAdd, Nat.reduceLeDiff, List.length_cons, List.length_nil, not_false_eq_true, not_true_eq_false, ne_eq, or_false, false_or, or_self, false_and, and_false, or_true, true_or, ite_self, Int.add_sub_cancel, Int.sub_add_cancel, b_lc1, b_lc2, b_lc3, b_lc4, b_lc5, up_eq, up_ei, up_n1, up_n2, W32i, W8i, W16i, W64i, if_ps, if_ng, and_tr, fil_n1, fil_in, fil_out, hm, M54]
    rw [ih (k + 1) _ _ t0 t1 (by simp (disch := omega) only [true_and, and_true, and_self, if_true, if_false, ite_true, ite_false, reduceIte, Int.reduceEq, Int.reduceNe, Int.reduceLT, Int.reduceLE, Int.reduceAdd, Int.reduceSub, Int.reduceMul, Int.reduceNeg, Int.reduceMod, Int.reduceDiv, Int.reduceToNat, Nat.reduceAdd, Nat.reduceLeDiff, List.length_cons, List.length_nil, not_false_eq_true, not_true_eq_false, ne_eq, or_false, false_or, or_self, false_and, and_false, or_true, true_or, ite_self, Int.add_sub_cancel, Int.sub_add_cancel, b_lc1, b_lc2, b_lc3, b_lc4, b_lc5, up_eq, up_ei, up_n1, up_n2, W32i, W8i, W16i, W64i, if_ps, if_ng, and_tr, fil_n1, fil_in, fil_out, hm]) (by omega) (by omega) h8 (by simp (disch := omega) only [true_and, and_true, and_self, if_true, if_false, ite_true, ite_false, reduceIte, Int.reduceEq, Int.reduceNe, Int.reduceLT, Int.reduceLE, Int.reduceAdd, Int.reduceSub, Int.reduceMul, Int.reduceNeg, Int.reduceMod, Int.reduceDiv, Int.reduceToNat, Nat.reduceAdd, Nat.reduceLeDiff, List.length_cons, List.length_nil, not_false_eq_true, not_true_eq_false, ne_eq, or_false, false_or, or_self, false_and, and_false, or_true, true_or, ite_self, Int.add_sub_cancel, Int.sub_add_cancel, b_lc1, b_lc2, b_lc3, b_lc4, b_lc5, up_eq, up_ei, up_n1, up_n2, W32i, W8i, W16i, W64i, if_ps, if_ng, and_tr, fil_n1, fil_in, fil_out]; omega) (by simp (disch := omega) only [true_and, and_true, and_self, if_true, if_false, ite_true, ite_false, reduceIte, Int.reduceEq, Int.reduceNe, Int.reduceLT, Int.reduceLE, Int.reduceAdd, Int.reduceSub, Int.reduceMul, Int.reduceNeg, Int.reduceMod, Int.reduceDiv, Int.reduceToNat, Nat.reduceAdd, Nat.reduceLeDiff, List.length_cons, List.length_nil, not_false_eq_true, not_true_eq_false, ne_eq, or_false, false_or, or_self, false_and, and_false, or_true, true_or, ite_self, Int.add_sub_cancel, Int.sub_add_cancel, b_lc1, b_lc2, b_lc3, b_lc4, b_lc5, up_eq, up_ei, up_n1, up_n2, W32i, W8i, W16i, W64i, if_ps, if_ng, and_tr, fil_n1, fil_in, fil_out]; omega) (by simp (disch := omega) only [true_and, and_true, and_self, if_true, if_false, ite_true, ite_false, reduceIte, Int.reduceEq, Int.reduceNe, Int.reduceLT, Int.reduceLE, Int.reduceAdd, Int.reduceSub, Int.reduceMul, Int.reduceNeg, Int.reduceMod, Int.reduceDiv, Int.reduceToNat, Nat.reduceAdd, Nat.reduceLeDiff, List.length_cons, List.length_nil, not_false_eq_true, not_true_eq_false, ne_eq, or_false, false_or, or_self, false_and, and_false, or_true, true_or, ite_self, Int.add_sub_cancel, Int.sub_add_cancel, b_lc1, b_lc2, b_lc3, b_lc4, b_lc5, up_eq, up_ei, up_n1, up_n2, W32i, W8i, W16i, W64i, if_ps, if_ng, and_tr, fil_n1, fil_in, fil_out]; omega) (by simp (disch := omega) only [true_and, and_true, and_self, if_true, if_false, ite_true, ite_false, reduceIte, Int.reduceEq, Int.reduceNe, Int.reduceLT, Int.reduceLE, Int.reduceAdd, Int.reduceSub, Int.reduceMul, Int.reduceNeg, Int.reduceMod, Int.reduceDiv, Int.reduceToNat, Nat.reduceAdd, Nat.reduceLeDiff, List.length_cons, List.length_nil, not_false_eq_true, not_true_eq_false, ne_eq, or_false, false_or, or_self, false_and, and_false, or_true, true_or, ite_self, Int.add_sub_cancel, Int.sub_add_cancel, b_lc1, b_lc2, b_lc3, b_lc4, b_lc5, up_eq, up_ei, up_n1, up_n2, W32i, W8i, W16i, W64i, if_ps, if_ng, and_tr, fil_n1, fil_in, fil_out]; omega) (by simp (disch := omega) only [true_and, and_true, and_self, if_true, if_false, ite_true, ite_false, reduceIte, Int.reduceEq, Int.reduceNe, Int.reduceLT, Int.reduceLE, Int.reduceAdd, Int.reduceSub, Int.reduceMul, Int.reduceNeg, Int.reduceMod, Int.reduceDiv, Int.reduceToNat, Nat.reduceAdd, Nat.reduceLeDiff, List.length_cons, List.length_nil, not_false_eq_true, not_true_eq_false, ne_eq, or_false, false_or, or_self, false_and, and_false, or_true, true_or, ite_self, Int.add_sub_cancel, Int.sub_add_cancel, b_lc1, b_lc2, b_lc3, b_lc4, b_lc5, up_eq, up_ei, up_n1, up_n2, W32i, W8i, W16i, W64i, if_ps, if_ng, and_tr, fil_n1, fil_in, fil_out]; intro s a b; exact h5 s (by omega) (by omega))]
    simp (disch := omega) only [true_and, and_true, and_self, if_true, if_false, ite_true, ite_false, reduceIte, Int.reduceEq, Int.reduceNe, Int.reduceLT, Int.reduceLE, Int.reduceAdd, Int.reduceSub, Int.reduceMul, Int.reduceNeg, Int.reduceMod, Int.reduceDiv, Int.reduceToNat, Nat.reduceAdd, Nat.reduceLeDiff, List.length_cons, List.length_nil, not_false_eq_true, not_true_eq_false, ne_eq, or_false, false_or, or_self, false_and, and_false, or_true, true_or, ite_self, Int.add_sub_cancel, Int.sub_add_cancel, b_lc1, b_lc2, b_lc3, b_lc4, b_lc5, up_eq, up_ei, up_n1, up_n2, W32i, W8i, W16i, W64i, if_ps, if_ng, and_tr, fil_n1, fil_in, fil_out]
    have e := zunS_s (S 55) (S 62) (S 13 1) c
    rw [← e, show S 13 1 - 1 - (c : Int) = S 13 1 - ((c + 1 : Nat) : Int) by omega, show S 12 10 + 1 + (c : Int) = S 12 10 + ((c + 1 : Nat) : Int) by omega]
    congr 1
    have f : ∀ (g : Int → Int), up (up (up S 13 1 (S 13 1 - 1)) 55 (S 62 (S 13 1 - 1)) (-1)) 12 10 (S 12 10 + 1) 62 = S 62 := by intro g; simp (disch := omega) only [up_fn]
    have f2 : up (up (up S 13 1 (S 13 1 - 1)) 55 (S 62 (S 13 1 - 1)) (-1)) 12 10 (S 12 10 + 1) 55 = fset (S 55) (S 62 (S 13 1 - 1)) (-1) := by
      funext j; simp [up, fset]
    rw [f (S 62), f2]
    funext b j
    simp only [up, arr]
    by_cases b1 : b = 12
    · subst b1; simp only [Int.reduceEq, false_and, if_false, true_and]; (repeat' split) <;> first | rfl | omega
    · by_cases b2 : b = 13
      · subst b2; simp only [Int.reduceEq, false_and, if_false, true_and]; (repeat' split) <;> first | rfl | omega
      · by_cases b3 : b = 55 <;> simp [b1, b2, b3]
/-- what is taken back of the last transaction -/
def Led.back (L : Led) : Led := (Led.mk1 (L.ob (L.T - 1)) L.e (L.T - 1) L.ht L.ud L.bg L.ad L.md (zunS L.sp L.se (L.sb L.T) (L.sb L.T - L.sb (L.T - 1)).toNat) L.kd L.ds L.po L.na L.am L.da L.th L.ob L.sb L.se L.pt L.tk L.mr)
theorem zunS_no (sp se : Int → Int) (hi i : Int) : ∀ (c : Nat), (∀ s, hi - c ≤ s → s < hi → se s ≠ i) → zunS sp se hi c i = sp i := by
  intro c
  induction c with
  | zero => intros; rfl
  | succ c ih =>
    intro h
    rw [zunS, fset_n _ _ _ _ (fun q => h (hi - c - 1) (by omega) (by omega) q.symm), ih (fun s a b => h s (by omega) b)]
theorem zunS_yes (sp se : Int → Int) (hi i : Int) : ∀ (c : Nat), (∃ s, hi - c ≤ s ∧ s < hi ∧ se s = i) → zunS sp se hi c i = -1 := by
  intro c
  induction c with
  | zero => rintro ⟨s, h⟩; omega
  | succ c ih =>
    rintro ⟨s, a, b, e⟩
    rw [zunS]
    by_cases q : i = se (hi - c - 1)
    · rw [fset_e _ _ _ _ q]
    · rw [fset_n _ _ _ _ q]
      apply ih
      refine ⟨s, ?_, b, e⟩
      by_cases r : s = hi - c - 1
      · subst r; exact absurd e.symm q
      · omega
theorem zunS_cg {sp sp' se se' : Int → Int} (hi i : Int) (h : sp i = sp' i) : ∀ (c : Nat), (∀ s, hi - c ≤ s → s < hi → se s = se' s) → zunS sp se hi c i = zunS sp' se' hi c i := by
  intro c
  induction c with
  | zero => intros; exact h
  | succ c ih =>
    intro g
    simp only [zunS, fset]
    rw [g (hi - c - 1) (by omega) (by omega), ih (fun s a b => g s (by omega) b)]
/-- cutting n live ones off -/
theorem zcl_cut (sp : Int → Int) (m : Nat) : ∀ (c : Nat), (∀ i : Int, m ≤ i → i < m + c → sp i < 0) → zcl sp (m + c) = zcl sp m + c := by
  intro c
  induction c with
  | zero => intros; simp
  | succ c ih =>
    intro h
    have := h ((m + c : Nat) : Int) (by omega) (by omega)
    rw [← Nat.add_assoc, zcl, ih (fun i a b => h i a (by omega)), if_pos this]
    omega
/-- one that was spent lives again -/
theorem zcl_set (sp : Int → Int) (i : Int) (h0 : 0 ≤ i) (h : 0 ≤ sp i) : ∀ (m : Nat), i < m → zcl (fset sp i (-1)) m = zcl sp m + 1 := by
  intro m
  induction m with
  | zero => intro; omega
  | succ m ih =>
    intro hm
    rw [zcl, zcl]
    by_cases q : i = m
    · rw [fset_e _ _ _ _ q.symm, if_pos (by omega), ← q, if_neg (by omega), zcl_cg (sp' := sp)]
      · omega
      · intro n a b; exact fset_n _ _ _ _ (by omega)
    · rw [fset_n _ _ _ _ (by omega), ih (by omega)]
      omega
theorem zcl_un (sp se : Int → Int) (hi : Int) (m : Nat) : ∀ (c : Nat), (∀ s, hi - c ≤ s → s < hi → 0 ≤ se s ∧ se s < m ∧ 0 ≤ sp (se s)) → (∀ s u, hi - c ≤ s → s < u → u < hi → se s ≠ se u) → zcl (zunS sp se hi c) m = zcl sp m + c := by
  intro c
  induction c with
  | zero => intros; simp [zunS]
  | succ c ih =>
    intro h g
    have a := h (hi - c - 1) (by omega) (by omega)
    rw [zunS, zcl_set _ _ a.1 _ _ a.2.1, ih (fun s p q => h s (by omega) q) (fun s u p q r => g s u (by omega) q r)]
    · omega
    · rw [zunS_no]
      · exact a.2.2
      · intro s p q
        exact fun e => g (hi - c - 1) s (by omega) (by omega) q e.symm
