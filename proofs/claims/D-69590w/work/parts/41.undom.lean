-- uses: 40
/-! M takes back -/
theorem m_un1 (n to e : Int) (he : 0 ≤ e) : ∀ (c : Nat) (S : Sto) (Q : ZQ) (m : Int), S 34 11 = m + c → 0 ≤ m → m + c ≤ 1024 → S 34 12 = e → e ≤ m → (∀ i, m ≤ i → i < m + c → to ≤ S 129 i) → (e < m → S 129 (m - 1) < to) →
    zG Cd 322 (Cd 322 31) [(34, 34), (0, n), (0, to), (9, 0)] [] S Q = zG Cd 322 (Cd 322 72) [(34, 34), (0, n), (0, to), (0, 0)] [] (up S 34 11 m) Q := by
  intro c
  induction c with
  | zero =>
    intro S Q m h1 h2 h3 h4 h5 h6 h7
    rw [L322_31, up_self _ _ _ _ (by omega)]
    by_cases q : e < m
    · have := h7 q
      simp (disch := omega) only [bcd, true_and, and_true, and_self, if_true, if_false, ite_true, ite_false, reduceIte, Int.reduceEq, Int.reduceNe, Int.reduceLT, Int.reduceLE, Int.reduceAdd, Int.reduceSub, Int.reduceMul, Int.reduceNeg, Int.reduceMod, Int.reduceDiv, Int.reduceToNat, Nat.reduceAdd, Nat.reduceLeDiff, List.length_cons, List.length_nil, not_false_eq_true, not_true_eq_false, ne_eq, or_false, false_or, or_self, false_and, and_false, or_true, true_or, ite_self, Int.add_sub_cancel, Int.sub_add_cancel, b_lc1, b_lc2, b_lc3, b_lc4, b_lc5, up_eq, up_ei, up_n1, up_n2, W32i, W8i, W16i, W64i, if_ps, if_ng, and_tr, fil_n1, fil_in, fil_out, M322, h1, h4, Int.natCast_zero, Int.add_zero]
    · simp (disch := omega) only [bcd, true_and, and_true, and_self, if_true, if_false, ite_true, ite_false, reduceIte, Int.reduceEq, Int.reduceNe, Int.reduceLT, Int.reduceLE, Int.reduceAdd, Int.reduceSub, Int.reduceMul, Int.reduceNeg, Int.reduceMod, Int.reduceDiv, Int.reduceToNat, Nat.reduceAdd, Nat.reduceLeDiff, List.length_cons, List.length_nil, not_false_eq_true, not_true_eq_false, ne_eq, or_false, false_or, or_self, false_and, and_false, or_true, true_or, ite_self, Int.add_sub_cancel, Int.sub_add_cancel, b_lc1, b_lc2, b_lc3, b_lc4, b_lc5, up_eq, up_ei, up_n1, up_n2, W32i, W8i, W16i, W64i, if_ps, if_ng, and_tr, fil_n1, fil_in, fil_out, M322, h1, h4, Int.natCast_zero, Int.add_zero]
  | succ c ih =>
    intro S Q m h1 h2 h3 h4 h5 h6 h7
    have h8 := h6 (S 34 11 - 1) (by omega) (by omega)
    rw [L322_31]
    simp (disch := omega) only [bcd, true_and, and_true, and_self, if_true, if_false, ite_true, ite_false, reduceIte, Int.reduceEq, Int.reduceNe, Int.reduceLT, Int.reduceLE, Int.reduceAdd, Int.reduceSub, Int.reduceMul, Int.reduceNeg, Int.reduceMod, Int.reduceDiv, Int.reduceToNat, Nat.reduceAdd, Nat.reduceLeDiff, List.length_cons, List.length_nil, not_false_eq_true, not_true_eq_false, ne_eq, or_false, false_or, or_self, false_and, and_false, or_true, true_or, ite_self, Int.add_sub_cancel, Int.sub_add_cancel, b_lc1, b_lc2, b_lc3, b_lc4, b_lc5, up_eq, up_ei, up_n1, up_n2, W32i, W8i, W16i, W64i, if_ps, if_ng, and_tr, fil_n1, fil_in, fil_out, h4]
    rw [ih _ _ m (by simp (disch := omega) only [true_and, and_true, and_self, if_true, if_false, ite_true, ite_false, reduceIte, Int.reduceEq, Int.reduceNe, Int.reduceLT, Int.reduceLE, Int.reduceAdd, Int.reduceSub, Int.reduceMul, Int.reduceNeg, Int.reduceMod, Int.reduceDiv, Int.reduceToNat, Nat.reduceAdd, Nat.reduceLeDiff, List.length_cons, List.length_nil, not_false_eq_true, not_true_eq_false, ne_eq, or_false, false_or, or_self, false_and, and_false, or_true, true_or, ite_self, Int.add_sub_cancel, Int.sub_add_cancel, b_lc1, b_lc2, b_lc3, b_lc4, b_lc5, up_eq, up_ei, up_n1, up_n2, W32i, W8i, W16i, W64i, if_ps, if_ng, and_tr, fil_n1, fil_in, fil_out]; omega) h2 (by omega) (by simp (disch := omega) only [true_and, and_true, and_self, if_true, if_false, ite_true, ite_false, reduceIte, Int.reduceEq, Int.reduceNe, Int.reduceLT, Int.reduceLE, Int.reduceAdd, Int.reduceSub, Int.reduceMul, Int.reduceNeg, Int.reduceMod, Int.reduceDiv, Int.reduceToNat, Nat.reduceAdd, Nat.reduceLeDiff, List.length_cons, List.length_nil, not_false_eq_true, not_true_eq_false, ne_eq, or_false, false_or, or_self, false_and, and_false, or_true, true_or, ite_self, Int.add_sub_cancel, Int.sub_add_cancel, b_lc1, b_lc2, b_lc3, b_lc4, b_lc5, up_eq, up_ei, up_n1, up_n2, W32i, W8i, W16i, W64i, if_ps, if_ng, and_tr, fil_n1, fil_in, fil_out, h4]) h5 (by intro i a b; simp (disch := omega) only [true_and, and_true, and_self, if_true, if_false, ite_true, ite_false, reduceIte, Int.reduceEq, Int.reduceNe, Int.reduceLT, Int.reduceLE, Int.reduceAdd, Int.reduceSub, Int.reduceMul, Int.reduceNeg, Int.reduceMod, Int.reduceDiv, Int.reduceToNat, Nat.reduceAdd, Nat.reduceLeDiff, List.length_cons, List.length_nil, not_false_eq_true, not_true_eq_false, ne_eq, or_false, false_or, or_self, false_and, and_false, or_true, true_or, ite_self, Int.add_sub_cancel, Int.sub_add_cancel, b_lc1, b_lc2, b_lc3, b_lc4, b_lc5, up_eq, up_ei, up_n1, up_n2, W32i, W8i, W16i, W64i, if_ps, if_ng, and_tr, fil_n1, fil_in, fil_out]; exact h6 i a (by omega)) (by intro a; simp (disch := omega) only [true_and, and_true, and_self, if_true, if_false, ite_true, ite_false, reduceIte, Int.reduceEq, Int.reduceNe, Int.reduceLT, Int.reduceLE, Int.reduceAdd, Int.reduceSub, Int.reduceMul, Int.reduceNeg, Int.reduceMod, Int.reduceDiv, Int.reduceToNat, Nat.reduceAdd, Nat.reduceLeDiff, List.length_cons, List.length_nil, not_false_eq_true, not_true_eq_false, ne_eq, or_false, false_or, or_self, false_and, and_false, or_true, true_or, ite_self, Int.add_sub_cancel, Int.sub_add_cancel, b_lc1, b_lc2, b_lc3, b_lc4, b_lc5, up_eq, up_ei, up_n1, up_n2, W32i, W8i, W16i, W64i, if_ps, if_ng, and_tr, fil_n1, fil_in, fil_out]; exact h7 a), up_up]
def zcp (f : Int → Int) (lo hi to : Int) (k : Int) : Int := if lo ≤ k ∧ k < hi ∧ to ≤ f k then -1 else f k
theorem m_un2 (n to m : Int) : ∀ (c : Nat) (S : Sto) (Q : ZQ) (k : Int), S 34 11 = m → m ≤ 1024 → 0 ≤ k → k + c = m →
    zG Cd 322 (Cd 322 72) [(34, 34), (0, n), (0, to), (0, k)] [] S Q = zG Cd 322 (Cd 322 114) [(34, 34), (0, n), (0, to), (0, to)] [] (arr S 130 (zcp (S 130) k m to)) Q := by
  intro c
  induction c with
  | zero =>
    intro S Q k h1 h2 h3 h4
    rw [L322_72]
    simp (disch := omega) only [bcd, true_and, and_true, and_self, if_true, if_false, ite_true, ite_false, reduceIte, Int.reduceEq, Int.reduceNe, Int.reduceLT, Int.reduceLE, Int.reduceAdd, Int.reduceSub, Int.reduceMul, Int.reduceNeg, Int.reduceMod, Int.reduceDiv, Int.reduceToNat, Nat.reduceAdd, Nat.reduceLeDiff, List.length_cons, List.length_nil, not_false_eq_true, not_true_eq_false, ne_eq, or_false, false_or, or_self, false_and, and_false, or_true, true_or, ite_self, Int.add_sub_cancel, Int.sub_add_cancel, b_lc1, b_lc2, b_lc3, b_lc4, b_lc5, up_eq, up_ei, up_n1, up_n2, W32i, W8i, W16i, W64i, if_ps, if_ng, and_tr, fil_n1, fil_in, fil_out, M322]
    congr 1
    funext b j
    simp only [arr, zcp]
    split
    · rename_i q; rw [q, if_neg (by omega)]
    · rfl
  | succ c ih =>
    intro S Q k h1 h2 h3 h4
    have e : arr (up S 130 k (if S 130 k < to then S 130 k else -1)) 130 (zcp (up S 130 k (if S 130 k < to then S 130 k else -1) 130) (k + 1) m to) = arr S 130 (zcp (S 130) k m to) := by
      funext b j
      simp only [arr, zcp, up]
      by_cases q : b = 130
      · subst q
        by_cases r : j = k
        · subst r; simp; (repeat' split) <;> omega
        · simp [r]; (repeat' split) <;> omega
      · simp [q]
    rw [← e, L322_72]
    by_cases q : S 130 k < to
    · simp (disch := omega) only [bcd, true_and, and_true, and_self, if_true, if_false, ite_true, ite_false, reduceIte, Int.reduceEq, Int.reduceNe, Int.reduceLT, Int.reduceLE, Int.reduceAdd, Int.reduceSub, Int.reduceMul, Int.reduceNeg, Int.reduceMod, Int.reduceDiv, Int.reduceToNat, Nat.reduceAdd, Nat.reduceLeDiff, List.length_cons, List.length_nil, not_false_eq_true, not_true_eq_false, ne_eq, or_false, false_or, or_self, false_and, and_false, or_true, true_or, ite_self, Int.add_sub_cancel, Int.sub_add_cancel, b_lc1, b_lc2, b_lc3, b_lc4, b_lc5, up_eq, up_ei, up_n1, up_n2, W32i, W8i, W16i, W64i, if_ps, if_ng, and_tr, fil_n1, fil_in, fil_out, M322]
      rw [ih _ _ (k + 1) (by simp (disch := omega) only [true_and, and_true, and_self, if_true, if_false, ite_true, ite_false, reduceIte, Int.reduceEq, Int.reduceNe, Int.reduceLT, Int.reduceLE, Int.reduceAdd, Int.reduceSub, Int.reduceMul, Int.reduceNeg, Int.reduceMod, Int.reduceDiv, Int.reduceToNat, Nat.reduceAdd, Nat.reduceLeDiff, List.length_cons, List.length_nil, not_false_eq_true, not_true_eq_false, ne_eq, or_false, false_or, or_self, false_and, and_false, or_true, true_or, ite_self, Int.add_sub_cancel, Int.sub_add_cancel, b_lc1, b_lc2, b_lc3, b_lc4, b_lc5, up_eq, up_ei, up_n1, up_n2, W32i, W8i, W16i, W64i, if_ps, if_ng, and_tr, fil_n1, fil_in, fil_out, h1]) h2 (by omega) (by omega)]
    · simp (disch := omega) only [bcd, true_and, and_true, and_self, if_true, if_false, ite_true, ite_false, reduceIte, Int.reduceEq, Int.reduceNe, Int.reduceLT, Int.reduceLE, Int.reduceAdd, Int.reduceSub, Int.reduceMul, Int.reduceNeg, Int.reduceMod, Int.reduceDiv, Int.reduceToNat, Nat.reduceAdd, Nat.reduceLeDiff, List.length_cons, List.length_nil, not_false_eq_true, not_true_eq_false, ne_eq, or_false, false_or, or_self, false_and, and_false, or_true, true_or, ite_self, Int.add_sub_cancel, Int.sub_add_cancel, b_lc1, b_lc2, b_lc3, b_lc4, b_lc5, up_eq, up_ei, up_n1, up_n2, W32i, W8i, W16i, W64i, if_ps, if_ng, and_tr, fil_n1, fil_in, fil_out, M322]
      rw [ih _ _ (k + 1) (by simp (disch := omega) only [true_and, and_true, and_self, if_true, if_false, ite_true, ite_false, reduceIte, Int.reduceEq, Int.reduceNe, Int.reduceLT, Int.reduceLE, Int.reduceAdd, Int.reduceSub, Int.reduceMul, Int.reduceNeg, Int.reduceMod, Int.reduceDiv, Int.reduceToNat, Nat.reduceAdd, Nat.reduceLeDiff, List.length_cons, List.length_nil, not_false_eq_true, not_true_eq_false, ne_eq, or_false, false_or, or_self, false_and, and_false, or_true, true_or, ite_self, Int.add_sub_cancel, Int.sub_add_cancel, b_lc1, b_lc2, b_lc3, b_lc4, b_lc5, up_eq, up_ei, up_n1, up_n2, W32i, W8i, W16i, W64i, if_ps, if_ng, and_tr, fil_n1, fil_in, fil_out, h1]) h2 (by omega) (by omega)]
def zer (S : Sto) (lo hi : Int) : Sto := fil (fil (fil S 131 lo hi (fun _ => 0)) 132 lo hi (fun _ => 0)) 133 lo hi (fun _ => 0)
theorem m_un3 (n to : Int) : ∀ (c : Nat) (S : Sto) (Q : ZQ) (k : Int), S 34 23 < 4200 → 0 ≤ k → k + c = S 34 23 + 1 →
    zG Cd 322 (Cd 322 114) [(34, 34), (0, n), (0, to), (0, k)] [] S Q = zG Cd 322 (Cd 322 149) [(34, 34), (0, n), (0, to), (0, S 34 23 + 1)] [] (zer S k (S 34 23 + 1)) Q := by
  intro c
  induction c with
  | zero =>
    intro S Q k h1 h2 h3
    rw [L322_114]
    simp (disch := omega) only [bcd, true_and, and_true, and_self, if_true, if_false, ite_true, ite_false, reduceIte, Int.reduceEq, Int.reduceNe, Int.reduceLT, Int.reduceLE, Int.reduceAdd, Int.reduceSub, Int.reduceMul, Int.reduceNeg, Int.reduceMod, Int.reduceDiv, Int.reduceToNat, Nat.reduceAdd, Nat.reduceLeDiff, List.length_cons, List.length_nil, not_false_eq_true, not_true_eq_false, ne_eq, or_false, false_or, or_self, false_and, and_false, or_true, true_or]
    rw [if_ps (by omega), show k = S 34 23 + 1 by omega, zer, fil_nil _ _ _ _ _ (by omega), fil_nil _ _ _ _ _ (by omega), fil_nil _ _ _ _ _ (by omega)]
  | succ c ih =>
    intro S Q k h1 h2 h3
    rw [L322_114]
    simp (disch := omega) only [bcd, true_and, and_true, and_self, if_true, if_false, ite_true, ite_false, reduceIte, Int.reduceEq, Int.reduceNe, Int.reduceLT, Int.reduceLE, Int.reduceAdd, Int.reduceSub, Int.reduceMul, Int.reduceNeg, Int.reduceMod, Int.reduceDiv, Int.reduceToNat, Nat.reduceAdd, Nat.reduceLeDiff, List.length_cons, List.length_nil, not_false_eq_true, not_true_eq_false, ne_eq, or_false, false_or, or_self, false_and, and_false, or_true, true_or, ite_self, Int.add_sub_cancel, Int.sub_add_cancel, b_lc1, b_lc2, b_lc3, b_lc4, b_lc5, up_eq, up_ei, up_n1, up_n2, W32i, W8i, W16i, W64i, if_ps, if_ng, and_tr, fil_n1, fil_in, fil_out]
    rw [ih _ _ (k + 1) (by simp (disch := omega) only [true_and, and_true, and_self, if_true, if_false, ite_true, ite_false, reduceIte, Int.reduceEq, Int.reduceNe, Int.reduceLT, Int.reduceLE, Int.reduceAdd, Int.reduceSub, Int.reduceMul, Int.reduceNeg, Int.reduceMod, Int.reduceDiv, Int.reduceToNat, Nat.reduceAdd, Nat.reduceLeDiff, List.length_cons, List.length_nil, not_false_eq_true, not_true_eq_false, ne_eq, or_false, false_or, or_self, false_and, and_false, or_true, true_or, ite_self, Int.add_sub_cancel, Int.sub_add_cancel, b_lc1, b_lc2, b_lc3, b_lc4, b_lc5, up_eq, up_ei, up_n1, up_n2, W32i, W8i, W16i, W64i, if_ps, if_ng, and_tr, fil_n1, fil_in, fil_out]; omega) (by omega) (by simp (disch := omega) only [true_and, and_true, and_self, if_true, if_false, ite_true, ite_false, reduceIte, Int.reduceEq, Int.reduceNe, Int.reduceLT, Int.reduceLE, Int.reduceAdd, Int.reduceSub, Int.reduceMul, Int.reduceNeg, Int.reduceMod, Int.reduceDiv, Int.reduceToNat, Nat.reduceAdd, Nat.reduceLeDiff, List.length_cons, List.length_nil, not_false_eq_true, not_true_eq_false, ne_eq, or_false, false_or, or_self, false_and, and_false, or_true, true_or, ite_self, Int.add_sub_cancel, Int.sub_add_cancel, b_lc1, b_lc2, b_lc3, b_lc4, b_lc5, up_eq, up_ei, up_n1, up_n2, W32i, W8i, W16i, W64i, if_ps, if_ng, and_tr, fil_n1, fil_in, fil_out]; omega)]
    simp (disch := omega) only [true_and, and_true, and_self, if_true, if_false, ite_true, ite_false, reduceIte, Int.reduceEq, Int.reduceNe, Int.reduceLT, Int.reduceLE, Int.reduceAdd, Int.reduceSub, Int.reduceMul, Int.reduceNeg, Int.reduceMod, Int.reduceDiv, Int.reduceToNat, Nat.reduceAdd, Nat.reduceLeDiff, List.length_cons, List.length_nil, not_false_eq_true, not_true_eq_false, ne_eq, or_false, false_or, or_self, false_and, and_false, or_true, true_or, ite_self, Int.add_sub_cancel, Int.sub_add_cancel, b_lc1, b_lc2, b_lc3, b_lc4, b_lc5, up_eq, up_ei, up_n1, up_n2, W32i, W8i, W16i, W64i, if_ps, if_ng, and_tr, fil_n1, fil_in, fil_out]
    congr 1
    funext b j
    simp only [zer, up, fil]
    by_cases q : b = 131
    · subst q; simp; (repeat' split) <;> first | rfl | omega
    · by_cases q2 : b = 132
      · subst q2; simp; (repeat' split) <;> first | rfl | omega
      · by_cases q3 : b = 133
        · subst q3; simp; (repeat' split) <;> first | rfl | omega
        · simp [q, q2, q3]
/-! all of it -/
def Led.tu (L : Led) (n : Int) : Int := if L.ht - n = 0 then 0 else L.mr (L.ht - n - 1)
def Led.undo (L : Led) (n : Int) : Led := (Led.mk1 (L.cut (L.tu n)).n (L.cut (L.tu n)).e (L.cut (L.tu n)).T (L.ht - n) (L.ud - n) (1) (L.cut (L.tu n)).ad (L.cut (L.tu n)).md (L.cut (L.tu n)).sp (L.cut (L.tu n)).kd (L.cut (L.tu n)).ds (L.cut (L.tu n)).po (L.cut (L.tu n)).na (L.cut (L.tu n)).am (L.cut (L.tu n)).da (L.cut (L.tu n)).th (L.cut (L.tu n)).ob (L.cut (L.tu n)).sb (L.cut (L.tu n)).se (L.cut (L.tu n)).pt (L.cut (L.tu n)).tk (L.cut (L.tu n)).mr)
theorem LW.cutT {L : Led} (w : LW L) : L.cut L.T = L := by
  have := w.obT
  unfold Led.cut
  rw [this, show (L.sb L.T - L.sb L.T).toNat = 0 by omega]
  rfl
theorem LW.tub {L : Led} (w : LW L) (n : Int) (h0 : 0 ≤ n) (h1 : n ≤ L.ud) : 0 ≤ L.tu n ∧ L.tu n ≤ L.T := by
  have := w.T
  have := w.ud
  unfold Led.tu
  split
  · omega
  · exact w.mr _ (by omega) (by omega)
theorem LW.tut {L : Led} (w : LW L) (n : Int) (h0 : 0 ≤ n) (h1 : n ≤ L.ud) (t : Int) (a : 0 ≤ t) (b : t < L.T) : t < L.tu n ↔ L.th t < L.ht - n := by
  have := w.ud
  unfold Led.tu
  split
  · have := (w.tw t a b).th
    omega
  · rw [w.mrt _ t (by omega) (by omega) a b]
    omega
theorem XL.bg1 {S : Sto} {L : Led} (h : XL S L) : XL (up S 11 16 1) (Led.mk1 L.n L.e L.T L.ht L.ud (1) L.ad L.md L.sp L.kd L.ds L.po L.na L.am L.da L.th L.ob L.sb L.se L.pt L.tk L.mr) := by
  obtain ⟨h_size, h_lives, h_ad, h_md, h_sp, h_kd, h_ds, h_po, h_na, h_am, h_da, h_lsz, h_ssz, h_tks, h_sb, h_ob, h_pt, h_tk, h_se, h_ht, h_ud, h_bg, h_pot, h_mr⟩ := h
  apply XL.mk1
  case bg => simp (disch := omega) only [true_and, and_true, and_self, if_true, if_false, ite_true, ite_false, reduceIte, Int.reduceEq, Int.reduceNe, Int.reduceLT, Int.reduceLE, Int.reduceAdd, Int.reduceSub, Int.reduceMul, Int.reduceNeg, Int.reduceMod, Int.reduceDiv, Int.reduceToNat, Nat.reduceAdd, Nat.reduceLeDiff, List.length_cons, List.length_nil, not_false_eq_true, not_true_eq_false, ne_eq, or_false, false_or, or_self, false_and, and_false, or_true, true_or, ite_self, Int.add_sub_cancel, Int.sub_add_cancel, b_lc1, b_lc2, b_lc3, b_lc4, b_lc5, up_eq, up_ei, up_n1, up_n2, W32i, W8i, W16i, W64i, if_ps, if_ng, and_tr, fil_n1, fil_in, fil_out, Led_mk]
  all_goals simp (disch := omega) only [true_and, and_true, and_self, if_true, if_false, ite_true, ite_false, reduceIte, Int.reduceEq, Int.reduceNe, Int.reduceLT, Int.reduceLE, Int.reduceAdd, Int.reduceSub, Int.reduceMul, Int.reduceNeg, Int.reduceMod, Int.reduceDiv, Int.reduceToNat, Nat.reduceAdd, Nat.reduceLeDiff, List.length_cons, List.length_nil, not_false_eq_true, not_true_eq_false, ne_eq, or_false, false_or, or_self, false_and, and_false, or_true, true_or, ite_self, Int.add_sub_cancel, Int.sub_add_cancel, b_lc1, b_lc2, b_lc3, b_lc4, b_lc5, up_eq, up_ei, up_n1, up_n2, W32i, W8i, W16i, W64i, if_ps, if_ng, and_tr, fil_n1, fil_in, fil_out]; assumption
theorem ML.bg1 {S : Sto} {L : Led} (h : ML S L) : ML (up S 34 13 1) (Led.mk1 L.n L.e L.T L.ht L.ud (1) L.ad L.md L.sp L.kd L.ds L.po L.na L.am L.da L.th L.ob L.sb L.se L.pt L.tk L.mr) := by
  obtain ⟨h_made, h_endw, h_ad, h_md, h_sp, h_kd, h_ds, h_po, h_na, h_am, h_da, h_ht, h_ud, h_bg, h_pts, h_aps, h_tks⟩ := h
  apply ML.mk1
  case bg => simp (disch := omega) only [true_and, and_true, and_self, if_true, if_false, ite_true, ite_false, reduceIte, Int.reduceEq, Int.reduceNe, Int.reduceLT, Int.reduceLE, Int.reduceAdd, Int.reduceSub, Int.reduceMul, Int.reduceNeg, Int.reduceMod, Int.reduceDiv, Int.reduceToNat, Nat.reduceAdd, Nat.reduceLeDiff, List.length_cons, List.length_nil, not_false_eq_true, not_true_eq_false, ne_eq, or_false, false_or, or_self, false_and, and_false, or_true, true_or, ite_self, Int.add_sub_cancel, Int.sub_add_cancel, b_lc1, b_lc2, b_lc3, b_lc4, b_lc5, up_eq, up_ei, up_n1, up_n2, W32i, W8i, W16i, W64i, if_ps, if_ng, and_tr, fil_n1, fil_in, fil_out, Led_mk]
  all_goals simp (disch := omega) only [true_and, and_true, and_self, if_true, if_false, ite_true, ite_false, reduceIte, Int.reduceEq, Int.reduceNe, Int.reduceLT, Int.reduceLE, Int.reduceAdd, Int.reduceSub, Int.reduceMul, Int.reduceNeg, Int.reduceMod, Int.reduceDiv, Int.reduceToNat, Nat.reduceAdd, Nat.reduceLeDiff, List.length_cons, List.length_nil, not_false_eq_true, not_true_eq_false, ne_eq, or_false, false_or, or_self, false_and, and_false, or_true, true_or, ite_self, Int.add_sub_cancel, Int.sub_add_cancel, b_lc1, b_lc2, b_lc3, b_lc4, b_lc5, up_eq, up_ei, up_n1, up_n2, W32i, W8i, W16i, W64i, if_ps, if_ng, and_tr, fil_n1, fil_in, fil_out]; assumption
theorem LW.bg1 {L : Led} (w : LW L) : LW (Led.mk1 L.n L.e L.T L.ht L.ud (1) L.ad L.md L.sp L.kd L.ds L.po L.na L.am L.da L.th L.ob L.sb L.se L.pt L.tk L.mr) := by
  have ow := w.ow
  have tw := w.tw
  obtain ⟨w_n, w_e, w_T, w_ht, w_ud, w_bg, w_ow, w_tw, w_md0, w_ob0, w_obT, w_sb0, w_thm, w_spe, w_inj, w_mr, w_mrt, w_sup⟩ := w
  apply LW.mk1
  case bg => exact Or.inr rfl
  case ow => intro n a b; have q := ow n a b; exact OW.mk1 (q.ad) (q.md) (q.sp) (q.kd) (q.ds) (q.po) (q.p0) (q.inc)
  case tw => intro n a b; have q := tw n a b; exact TW.mk1 (q.th) (q.ob) (q.sb) (q.md) (q.se) (q.pt) (q.tk)
  all_goals assumption
theorem x_undo {S : Sto} {L : Led} (h : XL S L) (w : LW L) (hT : L.T ≤ 64) (h64 : L.ht ≤ 64) (n : Int) (h0 : 0 ≤ n) (h1 : n ≤ L.ud) : ∃ S', zR 34 3 [(11, 11), (0, n)] S S' (0, L.ht - n) ∧ XL S' (L.undo n) ∧ ∀ f, f ≠ 15 → f ≠ 16 → f ≠ 12 → f ≠ 14 → S' 11 f = S 11 f := by
  have e1 := h.ht
  have e2 := h.ud
  have e4 := w.ud
  have e5 := w.ht
  have b1 := h.bg1
  have wb := w.bg1
  have tb := w.tub n h0 h1
  rw [← wb.cutT] at b1
  obtain ⟨S1, r1, x1, f1⟩ := x_back_l wb hT n (L.tu n) tb.1 (L.T - L.tu n).toNat (up S 11 16 1) (by show _ ≤ L.T; omega) (by rw [show L.tu n + ((L.T - L.tu n).toNat : Int) = L.T by omega]; exact b1)
  have e6 : S1 11 12 = L.ht := x1.ht
  have e7 : S1 11 14 = L.ud := x1.ud
  refine ⟨up (up S1 11 12 (L.ht - n)) 11 14 (L.ud - n), fun Q => ?_, ?_, ?_⟩
  · by_cases q : L.ht - n = 0
    · have z : L.tu n = 0 := by unfold Led.tu; rw [if_pos q]
      rw [z] at r1
      simp (disch := omega) only [bcd, true_and, and_true, and_self, if_true, if_false, ite_true, ite_false, reduceIte, Int.reduceEq, Int.reduceNe, Int.reduceLT, Int.reduceLE, Int.reduceAdd, Int.reduceSub, Int.reduceMul, Int.reduceNeg, Int.reduceMod, Int.reduceDiv, Int.reduceToNat, Nat.reduceAdd, Nat.reduceLeDiff, List.length_cons, List.length_nil, not_false_eq_true, not_true_eq_false, ne_eq, or_false, false_or, or_self, false_and, and_false, or_true, true_or, ite_self, Int.add_sub_cancel, Int.sub_add_cancel, b_lc1, b_lc2, b_lc3, b_lc4, b_lc5, up_eq, up_ei, up_n1, up_n2, W32i, W8i, W16i, W64i, if_ps, if_ng, and_tr, fil_n1, fil_in, fil_out, M34, e1, e2, r1, e6, e7]
    · have z : S 52 (L.ht - n - 1) = L.tu n := by unfold Led.tu; rw [if_neg q]; exact h.mr _ (by omega) (by omega)
      simp (disch := omega) only [bcd, true_and, and_true, and_self, if_true, if_false, ite_true, ite_false, reduceIte, Int.reduceEq, Int.reduceNe, Int.reduceLT, Int.reduceLE, Int.reduceAdd, Int.reduceSub, Int.reduceMul, Int.reduceNeg, Int.reduceMod, Int.reduceDiv, Int.reduceToNat, Nat.reduceAdd, Nat.reduceLeDiff, List.length_cons, List.length_nil, not_false_eq_true, not_true_eq_false, ne_eq, or_false, false_or, or_self, false_and, and_false, or_true, true_or, ite_self, Int.add_sub_cancel, Int.sub_add_cancel, b_lc1, b_lc2, b_lc3, b_lc4, b_lc5, up_eq, up_ei, up_n1, up_n2, W32i, W8i, W16i, W64i, if_ps, if_ng, and_tr, fil_n1, fil_in, fil_out, M34, e1, e2, r1, e6, e7, tmod65, z]
  · have := x1.mr
    obtain ⟨x1_size, x1_lives, x1_ad, x1_md, x1_sp, x1_kd, x1_ds, x1_po, x1_na, x1_am, x1_da, x1_lsz, x1_ssz, x1_tks, x1_sb, x1_ob, x1_pt, x1_tk, x1_se, x1_ht, x1_ud, x1_bg, x1_pot, x1_mr⟩ := x1
    apply XL.mk1
    case ht => simp (disch := omega) only [true_and, and_true, and_self, if_true, if_false, ite_true, ite_false, reduceIte, Int.reduceEq, Int.reduceNe, Int.reduceLT, Int.reduceLE, Int.reduceAdd, Int.reduceSub, Int.reduceMul, Int.reduceNeg, Int.reduceMod, Int.reduceDiv, Int.reduceToNat, Nat.reduceAdd, Nat.reduceLeDiff, List.length_cons, List.length_nil, not_false_eq_true, not_true_eq_false, ne_eq, or_false, false_or, or_self, false_and, and_false, or_true, true_or, ite_self, Int.add_sub_cancel, Int.sub_add_cancel, b_lc1, b_lc2, b_lc3, b_lc4, b_lc5, up_eq, up_ei, up_n1, up_n2, W32i, W8i, W16i, W64i, if_ps, if_ng, and_tr, fil_n1, fil_in, fil_out]; rfl
    case ud => simp (disch := omega) only [true_and, and_true, and_self, if_true, if_false, ite_true, ite_false, reduceIte, Int.reduceEq, Int.reduceNe, Int.reduceLT, Int.reduceLE, Int.reduceAdd, Int.reduceSub, Int.reduceMul, Int.reduceNeg, Int.reduceMod, Int.reduceDiv, Int.reduceToNat, Nat.reduceAdd, Nat.reduceLeDiff, List.length_cons, List.length_nil, not_false_eq_true, not_true_eq_false, ne_eq, or_false, false_or, or_self, false_and, and_false, or_true, true_or, ite_self, Int.add_sub_cancel, Int.sub_add_cancel, b_lc1, b_lc2, b_lc3, b_lc4, b_lc5, up_eq, up_ei, up_n1, up_n2, W32i, W8i, W16i, W64i, if_ps, if_ng, and_tr, fil_n1, fil_in, fil_out]; rfl
    case mr => simp (disch := omega) only [true_and, and_true, and_self, if_true, if_false, ite_true, ite_false, reduceIte, Int.reduceEq, Int.reduceNe, Int.reduceLT, Int.reduceLE, Int.reduceAdd, Int.reduceSub, Int.reduceMul, Int.reduceNeg, Int.reduceMod, Int.reduceDiv, Int.reduceToNat, Nat.reduceAdd, Nat.reduceLeDiff, List.length_cons, List.length_nil, not_false_eq_true, not_true_eq_false, ne_eq, or_false, false_or, or_self, false_and, and_false, or_true, true_or, ite_self, Int.add_sub_cancel, Int.sub_add_cancel, b_lc1, b_lc2, b_lc3, b_lc4, b_lc5, up_eq, up_ei, up_n1, up_n2, W32i, W8i, W16i, W64i, if_ps, if_ng, and_tr, fil_n1, fil_in, fil_out]; intro k a b; have b : k < L.ht - n := b; exact this k a (by show _ < L.ht; omega)
    all_goals simp (disch := omega) only [true_and, and_true, and_self, if_true, if_false, ite_true, ite_false, reduceIte, Int.reduceEq, Int.reduceNe, Int.reduceLT, Int.reduceLE, Int.reduceAdd, Int.reduceSub, Int.reduceMul, Int.reduceNeg, Int.reduceMod, Int.reduceDiv, Int.reduceToNat, Nat.reduceAdd, Nat.reduceLeDiff, List.length_cons, List.length_nil, not_false_eq_true, not_true_eq_false, ne_eq, or_false, false_or, or_self, false_and, and_false, or_true, true_or, ite_self, Int.add_sub_cancel, Int.sub_add_cancel, b_lc1, b_lc2, b_lc3, b_lc4, b_lc5, up_eq, up_ei, up_n1, up_n2, W32i, W8i, W16i, W64i, if_ps, if_ng, and_tr, fil_n1, fil_in, fil_out]; assumption
  · intro f a b c d
    simp (disch := omega) only [true_and, and_true, and_self, if_true, if_false, ite_true, ite_false, reduceIte, Int.reduceEq, Int.reduceNe, Int.reduceLT, Int.reduceLE, Int.reduceAdd, Int.reduceSub, Int.reduceMul, Int.reduceNeg, Int.reduceMod, Int.reduceDiv, Int.reduceToNat, Nat.reduceAdd, Nat.reduceLeDiff, List.length_cons, List.length_nil, not_false_eq_true, not_true_eq_false, ne_eq, or_false, false_or, or_self, false_and, and_false, or_true, true_or, ite_self, Int.add_sub_cancel, Int.sub_add_cancel, b_lc1, b_lc2, b_lc3, b_lc4, b_lc5, up_eq, up_ei, up_n1, up_n2, W32i, W8i, W16i, W64i, if_ps, if_ng, and_tr, fil_n1, fil_in, fil_out]
    rw [f1 f a]
    simp (disch := omega) only [true_and, and_true, and_self, if_true, if_false, ite_true, ite_false, reduceIte, Int.reduceEq, Int.reduceNe, Int.reduceLT, Int.reduceLE, Int.reduceAdd, Int.reduceSub, Int.reduceMul, Int.reduceNeg, Int.reduceMod, Int.reduceDiv, Int.reduceToNat, Nat.reduceAdd, Nat.reduceLeDiff, List.length_cons, List.length_nil, not_false_eq_true, not_true_eq_false, ne_eq, or_false, false_or, or_self, false_and, and_false, or_true, true_or, ite_self, Int.add_sub_cancel, Int.sub_add_cancel, b_lc1, b_lc2, b_lc3, b_lc4, b_lc5, up_eq, up_ei, up_n1, up_n2, W32i, W8i, W16i, W64i, if_ps, if_ng, and_tr, fil_n1, fil_in, fil_out]
theorem x_undo0 {S : Sto} {L : Led} (h : XL S L) (n : Int) (h0 : ¬ (0 ≤ n ∧ n ≤ L.ud)) : zR 34 3 [(11, 11), (0, n)] S (up S 11 16 1) (0, -1) := by
  intro Q
  have e2 := h.ud
  by_cases q : 0 ≤ n <;> simp (disch := omega) only [bcd, true_and, and_true, and_self, if_true, if_false, ite_true, ite_false, reduceIte, Int.reduceEq, Int.reduceNe, Int.reduceLT, Int.reduceLE, Int.reduceAdd, Int.reduceSub, Int.reduceMul, Int.reduceNeg, Int.reduceMod, Int.reduceDiv, Int.reduceToNat, Nat.reduceAdd, Nat.reduceLeDiff, List.length_cons, List.length_nil, not_false_eq_true, not_true_eq_false, ne_eq, or_false, false_or, or_self, false_and, and_false, or_true, true_or, ite_self, Int.add_sub_cancel, Int.sub_add_cancel, b_lc1, b_lc2, b_lc3, b_lc4, b_lc5, up_eq, up_ei, up_n1, up_n2, W32i, W8i, W16i, W64i, if_ps, if_ng, and_tr, fil_n1, fil_in, fil_out, M34, e2]
theorem m_undo0 {S : Sto} {L : Led} (h : ML S L) (n : Int) (h0 : ¬ (0 ≤ n ∧ n ≤ L.ud)) : zR 322 4 [(34, 34), (0, n)] S (up (up S 34 63 0) 34 13 1) (0, -1) := by
  intro Q
  have e2 := h.ud
  by_cases q : 0 ≤ n <;> simp (disch := omega) only [bcd, true_and, and_true, and_self, if_true, if_false, ite_true, ite_false, reduceIte, Int.reduceEq, Int.reduceNe, Int.reduceLT, Int.reduceLE, Int.reduceAdd, Int.reduceSub, Int.reduceMul, Int.reduceNeg, Int.reduceMod, Int.reduceDiv, Int.reduceToNat, Nat.reduceAdd, Nat.reduceLeDiff, List.length_cons, List.length_nil, not_false_eq_true, not_true_eq_false, ne_eq, or_false, false_or, or_self, false_and, and_false, or_true, true_or, ite_self, Int.add_sub_cancel, Int.sub_add_cancel, b_lc1, b_lc2, b_lc3, b_lc4, b_lc5, up_eq, up_ei, up_n1, up_n2, W32i, W8i, W16i, W64i, if_ps, if_ng, and_tr, fil_n1, fil_in, fil_out, M322, e2]
/-- who made an output -/
theorem LW.txo {L : Led} (w : LW L) : ∀ (c : Nat) (i : Int), (c : Int) ≤ L.T → L.e ≤ i → i < L.ob c → ∃ u : Int, 0 ≤ u ∧ u < c ∧ L.ob u ≤ i ∧ i < L.ob (u + 1) := by
  intro c
  have o0 := w.ob0
  induction c with
  | zero => intro i a b d; simp at d; omega
  | succ c ih =>
    intro i a b d
    by_cases q : i < L.ob c
    · obtain ⟨u, x1, x2, x3, x4⟩ := ih i (by omega) b q
      exact ⟨u, x1, by omega, x3, x4⟩
    · exact ⟨c, by omega, by omega, by omega, by simpa using d⟩
theorem m_undo {S : Sto} {L : Led} (h : ML S L) (w : LW L) (h64 : L.ht ≤ 64) (n : Int) (h0 : 0 ≤ n) (h1 : n ≤ L.ud) : ∃ S', zR 322 4 [(34, 34), (0, n)] S S' (0, L.ht - n) ∧ ML S' (L.undo n) ∧ S' 34 63 = 0 ∧ ∀ f, f ≠ 11 → f ≠ 63 → f ≠ 13 → f ≠ 23 → f ≠ 24 → S' 34 f = S 34 f := by
  have e1 := h.ht
  have e2 := h.ud
  have e3 := h.made
  have e4 := w.ud
  have e5 := w.ht
  have e6 := h.endw
  have e7 := w.e
  have e8 := w.n
  have tb := w.tub n h0 h1
  have mo := w.mono (t := L.tu n) (u := L.T) tb.1 tb.2 (by omega)
  have mo0 := w.mono (t := 0) (u := L.tu n) (by omega) tb.1 tb.2
  have oT := w.obT
  have o0 := w.ob0
  have txo := w.txo
  have md1 : ∀ i, L.ob (L.tu n) ≤ i → i < L.n → L.ht - n ≤ L.md i := by
    intro i a b
    obtain ⟨u, x1, x2, x3, x4⟩ := txo L.T.toNat i (by omega) (by omega) (by rw [show (L.T.toNat : Int) = L.T by omega]; omega)
    have x5 := (w.tw u x1 (by omega)).md i x3 x4
    have x6 := w.tut n h0 h1 u x1 (by omega)
    have x7 : ¬ u < L.tu n := by
      intro q
      have := w.mono (t := u + 1) (u := L.tu n) (by omega) (by omega) tb.2
      omega
    omega
  have md2 : L.e < L.ob (L.tu n) → L.md (L.ob (L.tu n) - 1) < L.ht - n := by
    intro a
    obtain ⟨u, x1, x2, x3, x4⟩ := txo (L.tu n).toNat (L.ob (L.tu n) - 1) (by omega) (by omega) (by rw [show ((L.tu n).toNat : Int) = L.tu n by omega]; omega)
    have x5 := (w.tw u x1 (by omega)).md _ x3 x4
    have x6 := w.tut n h0 h1 u x1 (by omega)
    omega
  have sp1 : ∀ i, 0 ≤ i → i < L.ob (L.tu n) → (if L.ht - n ≤ L.sp i then -1 else L.sp i) = (L.cut (L.tu n)).sp i := by
    intro i a b
    simp only [Led_mk, Led.cut]
    by_cases q : 0 ≤ L.sp i
    · obtain ⟨s, y1, y2, y3⟩ := w.spe i a (by omega) q
      obtain ⟨u, x1, x2, x3, x4⟩ := w.txs s y1 L.T.toNat (by omega) (by rw [show (L.T.toNat : Int) = L.T by omega]; exact y2)
      have x5 := (w.tw u x1 (by omega)).se s x3 x4
      rw [y3] at x5
      have x6 := w.tut n h0 h1 u x1 (by omega)
      by_cases r : u < L.tu n
      · rw [if_neg (by omega), zunS_no]
        intro s' z1 z2 z3
        have := w.mono (t := u + 1) (u := L.tu n) (by omega) (by omega) tb.2
        exact w.inj s s' y1 (by omega) z2 (by rw [y3, z3])
      · have := w.mono (t := L.tu n) (u := u) tb.1 (by omega) (by omega)
        rw [if_pos (by omega), zunS_yes]
        exact ⟨s, by omega, y2, y3⟩
    · rw [if_neg (by omega), zunS_no]
      intro s' z1 z2 z3
      obtain ⟨u, x1, x2, x3, x4⟩ := w.txs s' (by have := w.mono (t := 0) (u := L.tu n) (by omega) tb.1 tb.2; have := w.sb0; omega) L.T.toNat (by omega) (by rw [show (L.T.toNat : Int) = L.T by omega]; exact z2)
      have x5 := (w.tw u x1 (by omega)).se s' x3 x4
      have x6 := (w.tw u x1 (by omega)).th
      rw [z3] at x5
      omega
  refine ⟨up (up (zer (arr (up (up (up S 34 63 0) 34 13 1) 34 11 (L.ob (L.tu n))) 130 (zcp (S 130) 0 (L.ob (L.tu n)) (L.ht - n))) (L.ht - n) (L.ht + 1)) 34 23 (L.ht - n)) 34 24 (L.ud - n), fun Q => ?_, ?_, ?_, ?_⟩
  · simp (disch := omega) only [bcd, true_and, and_true, and_self, if_true, if_false, ite_true, ite_false, reduceIte, Int.reduceEq, Int.reduceNe, Int.reduceLT, Int.reduceLE, Int.reduceAdd, Int.reduceSub, Int.reduceMul, Int.reduceNeg, Int.reduceMod, Int.reduceDiv, Int.reduceToNat, Nat.reduceAdd, Nat.reduceLeDiff, List.length_cons, List.length_nil, not_false_eq_true, not_true_eq_false, ne_eq, or_false, false_or, or_self, false_and, and_false, or_true, true_or, ite_self, Int.add_sub_cancel, Int.sub_add_cancel, b_lc1, b_lc2, b_lc3, b_lc4, b_lc5, up_eq, up_ei, up_n1, up_n2, W32i, W8i, W16i, W64i, if_ps, if_ng, and_tr, fil_n1, fil_in, fil_out, M322, e1, e2]
    rw [m_un1 n (L.ht - n) L.e e7.1 (L.n - L.ob (L.tu n)).toNat _ _ (L.ob (L.tu n)) (by simp (disch := omega) only [true_and, and_true, and_self, if_true, if_false, ite_true, ite_false, reduceIte, Int.reduceEq, Int.reduceNe, Int.reduceLT, Int.reduceLE, Int.reduceAdd, Int.reduceSub, Int.reduceMul, Int.reduceNeg, Int.reduceMod, Int.reduceDiv, Int.reduceToNat, Nat.reduceAdd, Nat.reduceLeDiff, List.length_cons, List.length_nil, not_false_eq_true, not_true_eq_false, ne_eq, or_false, false_or, or_self, false_and, and_false, or_true, true_or, ite_self, Int.add_sub_cancel, Int.sub_add_cancel, b_lc1, b_lc2, b_lc3, b_lc4, b_lc5, up_eq, up_ei, up_n1, up_n2, W32i, W8i, W16i, W64i, if_ps, if_ng, and_tr, fil_n1, fil_in, fil_out]; omega) (by omega) (by omega) (by simp (disch := omega) only [true_and, and_true, and_self, if_true, if_false, ite_true, ite_false, reduceIte, Int.reduceEq, Int.reduceNe, Int.reduceLT, Int.reduceLE, Int.reduceAdd, Int.reduceSub, Int.reduceMul, Int.reduceNeg, Int.reduceMod, Int.reduceDiv, Int.reduceToNat, Nat.reduceAdd, Nat.reduceLeDiff, List.length_cons, List.length_nil, not_false_eq_true, not_true_eq_false, ne_eq, or_false, false_or, or_self, false_and, and_false, or_true, true_or, ite_self, Int.add_sub_cancel, Int.sub_add_cancel, b_lc1, b_lc2, b_lc3, b_lc4, b_lc5, up_eq, up_ei, up_n1, up_n2, W32i, W8i, W16i, W64i, if_ps, if_ng, and_tr, fil_n1, fil_in, fil_out]; omega) (by omega) (by intro i a b; simp (disch := omega) only [true_and, and_true, and_self, if_true, if_false, ite_true, ite_false, reduceIte, Int.reduceEq, Int.reduceNe, Int.reduceLT, Int.reduceLE, Int.reduceAdd, Int.reduceSub, Int.reduceMul, Int.reduceNeg, Int.reduceMod, Int.reduceDiv, Int.reduceToNat, Nat.reduceAdd, Nat.reduceLeDiff, List.length_cons, List.length_nil, not_false_eq_true, not_true_eq_false, ne_eq, or_false, false_or, or_self, false_and, and_false, or_true, true_or, ite_self, Int.add_sub_cancel, Int.sub_add_cancel, b_lc1, b_lc2, b_lc3, b_lc4, b_lc5, up_eq, up_ei, up_n1, up_n2, W32i, W8i, W16i, W64i, if_ps, if_ng, and_tr, fil_n1, fil_in, fil_out]; rw [h.md i (by omega) (by omega)]; exact md1 i a (by omega)) (by intro a; simp (disch := omega) only [true_and, and_true, and_self, if_true, if_false, ite_true, ite_false, reduceIte, Int.reduceEq, Int.reduceNe, Int.reduceLT, Int.reduceLE, Int.reduceAdd, Int.reduceSub, Int.reduceMul, Int.reduceNeg, Int.reduceMod, Int.reduceDiv, Int.reduceToNat, Nat.reduceAdd, Nat.reduceLeDiff, List.length_cons, List.length_nil, not_false_eq_true, not_true_eq_false, ne_eq, or_false, false_or, or_self, false_and, and_false, or_true, true_or, ite_self, Int.add_sub_cancel, Int.sub_add_cancel, b_lc1, b_lc2, b_lc3, b_lc4, b_lc5, up_eq, up_ei, up_n1, up_n2, W32i, W8i, W16i, W64i, if_ps, if_ng, and_tr, fil_n1, fil_in, fil_out]; rw [h.md _ (by omega) (by omega)]; exact md2 a)]
    rw [m_un2 n (L.ht - n) (L.ob (L.tu n)) (L.ob (L.tu n)).toNat _ _ 0 (by simp (disch := omega) only [true_and, and_true, and_self, if_true, if_false, ite_true, ite_false, reduceIte, Int.reduceEq, Int.reduceNe, Int.reduceLT, Int.reduceLE, Int.reduceAdd, Int.reduceSub, Int.reduceMul, Int.reduceNeg, Int.reduceMod, Int.reduceDiv, Int.reduceToNat, Nat.reduceAdd, Nat.reduceLeDiff, List.length_cons, List.length_nil, not_false_eq_true, not_true_eq_false, ne_eq, or_false, false_or, or_self, false_and, and_false, or_true, true_or, ite_self, Int.add_sub_cancel, Int.sub_add_cancel, b_lc1, b_lc2, b_lc3, b_lc4, b_lc5, up_eq, up_ei, up_n1, up_n2, W32i, W8i, W16i, W64i, if_ps, if_ng, and_tr, fil_n1, fil_in, fil_out]) (by omega) (by omega) (by omega)]
    rw [m_un3 n (L.ht - n) (n + 1).toNat _ _ (L.ht - n) (by simp (disch := omega) only [true_and, and_true, and_self, if_true, if_false, ite_true, ite_false, reduceIte, Int.reduceEq, Int.reduceNe, Int.reduceLT, Int.reduceLE, Int.reduceAdd, Int.reduceSub, Int.reduceMul, Int.reduceNeg, Int.reduceMod, Int.reduceDiv, Int.reduceToNat, Nat.reduceAdd, Nat.reduceLeDiff, List.length_cons, List.length_nil, not_false_eq_true, not_true_eq_false, ne_eq, or_false, false_or, or_self, false_and, and_false, or_true, true_or, ite_self, Int.add_sub_cancel, Int.sub_add_cancel, b_lc1, b_lc2, b_lc3, b_lc4, b_lc5, up_eq, up_ei, up_n1, up_n2, W32i, W8i, W16i, W64i, if_ps, if_ng, and_tr, fil_n1, fil_in, fil_out, arr_o]; omega) (by omega) (by simp (disch := omega) only [true_and, and_true, and_self, if_true, if_false, ite_true, ite_false, reduceIte, Int.reduceEq, Int.reduceNe, Int.reduceLT, Int.reduceLE, Int.reduceAdd, Int.reduceSub, Int.reduceMul, Int.reduceNeg, Int.reduceMod, Int.reduceDiv, Int.reduceToNat, Nat.reduceAdd, Nat.reduceLeDiff, List.length_cons, List.length_nil, not_false_eq_true, not_true_eq_false, ne_eq, or_false, false_or, or_self, false_and, and_false, or_true, true_or, ite_self, Int.add_sub_cancel, Int.sub_add_cancel, b_lc1, b_lc2, b_lc3, b_lc4, b_lc5, up_eq, up_ei, up_n1, up_n2, W32i, W8i, W16i, W64i, if_ps, if_ng, and_tr, fil_n1, fil_in, fil_out, arr_o]; omega)]
    simp (disch := omega) only [bcd, true_and, and_true, and_self, if_true, if_false, ite_true, ite_false, reduceIte, Int.reduceEq, Int.reduceNe, Int.reduceLT, Int.reduceLE, Int.reduceAdd, Int.reduceSub, Int.reduceMul, Int.reduceNeg, Int.reduceMod, Int.reduceDiv, Int.reduceToNat, Nat.reduceAdd, Nat.reduceLeDiff, List.length_cons, List.length_nil, not_false_eq_true, not_true_eq_false, ne_eq, or_false, false_or, or_self, false_and, and_false, or_true, true_or, ite_self, Int.add_sub_cancel, Int.sub_add_cancel, b_lc1, b_lc2, b_lc3, b_lc4, b_lc5, up_eq, up_ei, up_n1, up_n2, W32i, W8i, W16i, W64i, if_ps, if_ng, and_tr, fil_n1, fil_in, fil_out, M322, arr_o, up_fn, e1, e2, zer, fil_n1]
  · have pz : ∀ (f : Int → Int) (k : Int), 0 ≤ k → k ≤ L.ht - n → zsum (zaTh f L.th k) (L.tu n).toNat = if k = L.ht - n then 0 else zsum (zaTh f L.th k) L.T.toNat := by
      intro f k a b
      have hT := w.T
      split
      · apply zsum0
        intro t c d
        have := w.tut n h0 h1 t c (by omega)
        unfold zaTh
        rw [if_neg (by omega)]
      · have : ∀ c : Nat, L.tu n + c ≤ L.T → zsum (zaTh f L.th k) (L.tu n).toNat = zsum (zaTh f L.th k) (L.tu n + c).toNat := by
          intro c
          induction c with
          | zero => intro; simp
          | succ c ih =>
            intro q
            have x6 := w.tut n h0 h1 (L.tu n + c) (by omega) (by omega)
            rw [show (L.tu n + ((c + 1 : Nat) : Int)).toNat = (L.tu n + c).toNat + 1 by omega, zsum, ← ih (by omega)]
            unfold zaTh
            rw [show (((L.tu n + c).toNat : Nat) : Int) = L.tu n + c by omega, if_neg (by omega)]
            omega
        rw [this (L.T - L.tu n).toNat (by omega), show L.tu n + ((L.T - L.tu n).toNat : Int) = L.T by omega]
    apply ML.mk1
    case made => simp (disch := omega) only [true_and, and_true, and_self, if_true, if_false, ite_true, ite_false, reduceIte, Int.reduceEq, Int.reduceNe, Int.reduceLT, Int.reduceLE, Int.reduceAdd, Int.reduceSub, Int.reduceMul, Int.reduceNeg, Int.reduceMod, Int.reduceDiv, Int.reduceToNat, Nat.reduceAdd, Nat.reduceLeDiff, List.length_cons, List.length_nil, not_false_eq_true, not_true_eq_false, ne_eq, or_false, false_or, or_self, false_and, and_false, or_true, true_or, ite_self, Int.add_sub_cancel, Int.sub_add_cancel, b_lc1, b_lc2, b_lc3, b_lc4, b_lc5, up_eq, up_ei, up_n1, up_n2, W32i, W8i, W16i, W64i, if_ps, if_ng, and_tr, fil_n1, fil_in, fil_out, zer, arr_o, fil_n1]; rfl
    case endw => simp (disch := omega) only [true_and, and_true, and_self, if_true, if_false, ite_true, ite_false, reduceIte, Int.reduceEq, Int.reduceNe, Int.reduceLT, Int.reduceLE, Int.reduceAdd, Int.reduceSub, Int.reduceMul, Int.reduceNeg, Int.reduceMod, Int.reduceDiv, Int.reduceToNat, Nat.reduceAdd, Nat.reduceLeDiff, List.length_cons, List.length_nil, not_false_eq_true, not_true_eq_false, ne_eq, or_false, false_or, or_self, false_and, and_false, or_true, true_or, ite_self, Int.add_sub_cancel, Int.sub_add_cancel, b_lc1, b_lc2, b_lc3, b_lc4, b_lc5, up_eq, up_ei, up_n1, up_n2, W32i, W8i, W16i, W64i, if_ps, if_ng, and_tr, fil_n1, fil_in, fil_out, zer, arr_o, fil_n1]; exact e6
    case ht => simp (disch := omega) only [true_and, and_true, and_self, if_true, if_false, ite_true, ite_false, reduceIte, Int.reduceEq, Int.reduceNe, Int.reduceLT, Int.reduceLE, Int.reduceAdd, Int.reduceSub, Int.reduceMul, Int.reduceNeg, Int.reduceMod, Int.reduceDiv, Int.reduceToNat, Nat.reduceAdd, Nat.reduceLeDiff, List.length_cons, List.length_nil, not_false_eq_true, not_true_eq_false, ne_eq, or_false, false_or, or_self, false_and, and_false, or_true, true_or, ite_self, Int.add_sub_cancel, Int.sub_add_cancel, b_lc1, b_lc2, b_lc3, b_lc4, b_lc5, up_eq, up_ei, up_n1, up_n2, W32i, W8i, W16i, W64i, if_ps, if_ng, and_tr, fil_n1, fil_in, fil_out]; rfl
    case ud => simp (disch := omega) only [true_and, and_true, and_self, if_true, if_false, ite_true, ite_false, reduceIte, Int.reduceEq, Int.reduceNe, Int.reduceLT, Int.reduceLE, Int.reduceAdd, Int.reduceSub, Int.reduceMul, Int.reduceNeg, Int.reduceMod, Int.reduceDiv, Int.reduceToNat, Nat.reduceAdd, Nat.reduceLeDiff, List.length_cons, List.length_nil, not_false_eq_true, not_true_eq_false, ne_eq, or_false, false_or, or_self, false_and, and_false, or_true, true_or, ite_self, Int.add_sub_cancel, Int.sub_add_cancel, b_lc1, b_lc2, b_lc3, b_lc4, b_lc5, up_eq, up_ei, up_n1, up_n2, W32i, W8i, W16i, W64i, if_ps, if_ng, and_tr, fil_n1, fil_in, fil_out]; rfl
    case bg => simp (disch := omega) only [true_and, and_true, and_self, if_true, if_false, ite_true, ite_false, reduceIte, Int.reduceEq, Int.reduceNe, Int.reduceLT, Int.reduceLE, Int.reduceAdd, Int.reduceSub, Int.reduceMul, Int.reduceNeg, Int.reduceMod, Int.reduceDiv, Int.reduceToNat, Nat.reduceAdd, Nat.reduceLeDiff, List.length_cons, List.length_nil, not_false_eq_true, not_true_eq_false, ne_eq, or_false, false_or, or_self, false_and, and_false, or_true, true_or, ite_self, Int.add_sub_cancel, Int.sub_add_cancel, b_lc1, b_lc2, b_lc3, b_lc4, b_lc5, up_eq, up_ei, up_n1, up_n2, W32i, W8i, W16i, W64i, if_ps, if_ng, and_tr, fil_n1, fil_in, fil_out, zer, arr_o, fil_n1]; rfl
    case sp =>
      intro k a b
      have b : k < L.ob (L.tu n) := b
      simp (disch := omega) only [true_and, and_true, and_self, if_true, if_false, ite_true, ite_false, reduceIte, Int.reduceEq, Int.reduceNe, Int.reduceLT, Int.reduceLE, Int.reduceAdd, Int.reduceSub, Int.reduceMul, Int.reduceNeg, Int.reduceMod, Int.reduceDiv, Int.reduceToNat, Nat.reduceAdd, Nat.reduceLeDiff, List.length_cons, List.length_nil, not_false_eq_true, not_true_eq_false, ne_eq, or_false, false_or, or_self, false_and, and_false, or_true, true_or, ite_self, Int.add_sub_cancel, Int.sub_add_cancel, b_lc1, b_lc2, b_lc3, b_lc4, b_lc5, up_eq, up_ei, up_n1, up_n2, W32i, W8i, W16i, W64i, if_ps, if_ng, and_tr, fil_n1, fil_in, fil_out, zer, arr_e, fil_n1]
      show _ = (L.cut (L.tu n)).sp k
      rw [← sp1 k a b, zcp, h.sp k a (by omega)]
      by_cases q : L.ht - n ≤ L.sp k
      · rw [if_pos ⟨a, b, q⟩, if_pos q]
      · rw [if_neg (by omega), if_neg q]
    case pts =>
      intro k a b
      have b : k ≤ L.ht - n := b
      simp only [zer]
      simp (disch := omega) only [true_and, and_true, and_self, if_true, if_false, ite_true, ite_false, reduceIte, Int.reduceEq, Int.reduceNe, Int.reduceLT, Int.reduceLE, Int.reduceAdd, Int.reduceSub, Int.reduceMul, Int.reduceNeg, Int.reduceMod, Int.reduceDiv, Int.reduceToNat, Nat.reduceAdd, Nat.reduceLeDiff, List.length_cons, List.length_nil, not_false_eq_true, not_true_eq_false, ne_eq, or_false, false_or, or_self, false_and, and_false, or_true, true_or, ite_self, Int.add_sub_cancel, Int.sub_add_cancel, b_lc1, b_lc2, b_lc3, b_lc4, b_lc5, up_eq, up_ei, up_n1, up_n2, W32i, W8i, W16i, W64i, if_ps, if_ng, and_tr, fil_n1, fil_in, fil_out, arr_o]
      show _ = zsum (zaTh L.pt L.th k) (L.tu n).toNat
      rw [pz _ k a b]
      by_cases q : k = L.ht - n
      · rw [if_pos q, fil_in _ _ _ _ _ _ (by omega) (by omega)]
      · rw [if_neg q, fil_out _ _ _ _ _ _ (by omega)]
        simp (disch := omega) only [true_and, and_true, and_self, if_true, if_false, ite_true, ite_false, reduceIte, Int.reduceEq, Int.reduceNe, Int.reduceLT, Int.reduceLE, Int.reduceAdd, Int.reduceSub, Int.reduceMul, Int.reduceNeg, Int.reduceMod, Int.reduceDiv, Int.reduceToNat, Nat.reduceAdd, Nat.reduceLeDiff, List.length_cons, List.length_nil, not_false_eq_true, not_true_eq_false, ne_eq, or_false, false_or, or_self, false_and, and_false, or_true, true_or, ite_self, Int.add_sub_cancel, Int.sub_add_cancel, b_lc1, b_lc2, b_lc3, b_lc4, b_lc5, up_eq, up_ei, up_n1, up_n2, W32i, W8i, W16i, W64i, if_ps, if_ng, and_tr, fil_n1, fil_in, fil_out, arr_o]
        exact h.pts k a (by omega)
    case aps =>
      intro k a b
      have b : k ≤ L.ht - n := b
      simp only [zer]
      simp (disch := omega) only [true_and, and_true, and_self, if_true, if_false, ite_true, ite_false, reduceIte, Int.reduceEq, Int.reduceNe, Int.reduceLT, Int.reduceLE, Int.reduceAdd, Int.reduceSub, Int.reduceMul, Int.reduceNeg, Int.reduceMod, Int.reduceDiv, Int.reduceToNat, Nat.reduceAdd, Nat.reduceLeDiff, List.length_cons, List.length_nil, not_false_eq_true, not_true_eq_false, ne_eq, or_false, false_or, or_self, false_and, and_false, or_true, true_or, ite_self, Int.add_sub_cancel, Int.sub_add_cancel, b_lc1, b_lc2, b_lc3, b_lc4, b_lc5, up_eq, up_ei, up_n1, up_n2, W32i, W8i, W16i, W64i, if_ps, if_ng, and_tr, fil_n1, fil_in, fil_out, arr_o]
      show _ = zsum (zaTh (fun t => 1 - L.tk t) L.th k) (L.tu n).toNat
      rw [pz _ k a b]
      by_cases q : k = L.ht - n
      · rw [if_pos q, fil_in _ _ _ _ _ _ (by omega) (by omega)]
      · rw [if_neg q, fil_out _ _ _ _ _ _ (by omega)]
        simp (disch := omega) only [true_and, and_true, and_self, if_true, if_false, ite_true, ite_false, reduceIte, Int.reduceEq, Int.reduceNe, Int.reduceLT, Int.reduceLE, Int.reduceAdd, Int.reduceSub, Int.reduceMul, Int.reduceNeg, Int.reduceMod, Int.reduceDiv, Int.reduceToNat, Nat.reduceAdd, Nat.reduceLeDiff, List.length_cons, List.length_nil, not_false_eq_true, not_true_eq_false, ne_eq, or_false, false_or, or_self, false_and, and_false, or_true, true_or, ite_self, Int.add_sub_cancel, Int.sub_add_cancel, b_lc1, b_lc2, b_lc3, b_lc4, b_lc5, up_eq, up_ei, up_n1, up_n2, W32i, W8i, W16i, W64i, if_ps, if_ng, and_tr, fil_n1, fil_in, fil_out, arr_o]
        exact h.aps k a (by omega)
    case tks =>
      intro k a b
      have b : k ≤ L.ht - n := b
      simp only [zer]
      simp (disch := omega) only [true_and, and_true, and_self, if_true, if_false, ite_true, ite_false, reduceIte, Int.reduceEq, Int.reduceNe, Int.reduceLT, Int.reduceLE, Int.reduceAdd, Int.reduceSub, Int.reduceMul, Int.reduceNeg, Int.reduceMod, Int.reduceDiv, Int.reduceToNat, Nat.reduceAdd, Nat.reduceLeDiff, List.length_cons, List.length_nil, not_false_eq_true, not_true_eq_false, ne_eq, or_false, false_or, or_self, false_and, and_false, or_true, true_or, ite_self, Int.add_sub_cancel, Int.sub_add_cancel, b_lc1, b_lc2, b_lc3, b_lc4, b_lc5, up_eq, up_ei, up_n1, up_n2, W32i, W8i, W16i, W64i, if_ps, if_ng, and_tr, fil_n1, fil_in, fil_out, arr_o]
      show _ = zsum (zaTh L.tk L.th k) (L.tu n).toNat
      rw [pz _ k a b]
      by_cases q : k = L.ht - n
      · rw [if_pos q, fil_in _ _ _ _ _ _ (by omega) (by omega)]
      · rw [if_neg q, fil_out _ _ _ _ _ _ (by omega)]
        simp (disch := omega) only [true_and, and_true, and_self, if_true, if_false, ite_true, ite_false, reduceIte, Int.reduceEq, Int.reduceNe, Int.reduceLT, Int.reduceLE, Int.reduceAdd, Int.reduceSub, Int.reduceMul, Int.reduceNeg, Int.reduceMod, Int.reduceDiv, Int.reduceToNat, Nat.reduceAdd, Nat.reduceLeDiff, List.length_cons, List.length_nil, not_false_eq_true, not_true_eq_false, ne_eq, or_false, false_or, or_self, false_and, and_false, or_true, true_or, ite_self, Int.add_sub_cancel, Int.sub_add_cancel, b_lc1, b_lc2, b_lc3, b_lc4, b_lc5, up_eq, up_ei, up_n1, up_n2, W32i, W8i, W16i, W64i, if_ps, if_ng, and_tr, fil_n1, fil_in, fil_out, arr_o]
        exact h.tks k a (by omega)
    case ad => simp (disch := omega) only [true_and, and_true, and_self, if_true, if_false, ite_true, ite_false, reduceIte, Int.reduceEq, Int.reduceNe, Int.reduceLT, Int.reduceLE, Int.reduceAdd, Int.reduceSub, Int.reduceMul, Int.reduceNeg, Int.reduceMod, Int.reduceDiv, Int.reduceToNat, Nat.reduceAdd, Nat.reduceLeDiff, List.length_cons, List.length_nil, not_false_eq_true, not_true_eq_false, ne_eq, or_false, false_or, or_self, false_and, and_false, or_true, true_or, ite_self, Int.add_sub_cancel, Int.sub_add_cancel, b_lc1, b_lc2, b_lc3, b_lc4, b_lc5, up_eq, up_ei, up_n1, up_n2, W32i, W8i, W16i, W64i, if_ps, if_ng, and_tr, fil_n1, fil_in, fil_out, zer, arr_o, fil_n1]; intro k a b; have b : k < L.ob (L.tu n) := b; exact h.ad k a (by omega)
    case md => simp (disch := omega) only [true_and, and_true, and_self, if_true, if_false, ite_true, ite_false, reduceIte, Int.reduceEq, Int.reduceNe, Int.reduceLT, Int.reduceLE, Int.reduceAdd, Int.reduceSub, Int.reduceMul, Int.reduceNeg, Int.reduceMod, Int.reduceDiv, Int.reduceToNat, Nat.reduceAdd, Nat.reduceLeDiff, List.length_cons, List.length_nil, not_false_eq_true, not_true_eq_false, ne_eq, or_false, false_or, or_self, false_and, and_false, or_true, true_or, ite_self, Int.add_sub_cancel, Int.sub_add_cancel, b_lc1, b_lc2, b_lc3, b_lc4, b_lc5, up_eq, up_ei, up_n1, up_n2, W32i, W8i, W16i, W64i, if_ps, if_ng, and_tr, fil_n1, fil_in, fil_out, zer, arr_o, fil_n1]; intro k a b; have b : k < L.ob (L.tu n) := b; exact h.md k a (by omega)
    case kd => simp (disch := omega) only [true_and, and_true, and_self, if_true, if_false, ite_true, ite_false, reduceIte, Int.reduceEq, Int.reduceNe, Int.reduceLT, Int.reduceLE, Int.reduceAdd, Int.reduceSub, Int.reduceMul, Int.reduceNeg, Int.reduceMod, Int.reduceDiv, Int.reduceToNat, Nat.reduceAdd, Nat.reduceLeDiff, List.length_cons, List.length_nil, not_false_eq_true, not_true_eq_false, ne_eq, or_false, false_or, or_self, false_and, and_false, or_true, true_or, ite_self, Int.add_sub_cancel, Int.sub_add_cancel, b_lc1, b_lc2, b_lc3, b_lc4, b_lc5, up_eq, up_ei, up_n1, up_n2, W32i, W8i, W16i, W64i, if_ps, if_ng, and_tr, fil_n1, fil_in, fil_out, zer, arr_o, fil_n1]; intro k a b; have b : k < L.ob (L.tu n) := b; exact h.kd k a (by omega)
    case ds => simp (disch := omega) only [true_and, and_true, and_self, if_true, if_false, ite_true, ite_false, reduceIte, Int.reduceEq, Int.reduceNe, Int.reduceLT, Int.reduceLE, Int.reduceAdd, Int.reduceSub, Int.reduceMul, Int.reduceNeg, Int.reduceMod, Int.reduceDiv, Int.reduceToNat, Nat.reduceAdd, Nat.reduceLeDiff, List.length_cons, List.length_nil, not_false_eq_true, not_true_eq_false, ne_eq, or_false, false_or, or_self, false_and, and_false, or_true, true_or, ite_self, Int.add_sub_cancel, Int.sub_add_cancel, b_lc1, b_lc2, b_lc3, b_lc4, b_lc5, up_eq, up_ei, up_n1, up_n2, W32i, W8i, W16i, W64i, if_ps, if_ng, and_tr, fil_n1, fil_in, fil_out, zer, arr_o, fil_n1]; intro k a b; have b : k < L.ob (L.tu n) := b; exact h.ds k a (by omega)
    case po => simp (disch := omega) only [true_and, and_true, and_self, if_true, if_false, ite_true, ite_false, reduceIte, Int.reduceEq, Int.reduceNe, Int.reduceLT, Int.reduceLE, Int.reduceAdd, Int.reduceSub, Int.reduceMul, Int.reduceNeg, Int.reduceMod, Int.reduceDiv, Int.reduceToNat, Nat.reduceAdd, Nat.reduceLeDiff, List.length_cons, List.length_nil, not_false_eq_true, not_true_eq_false, ne_eq, or_false, false_or, or_self, false_and, and_false, or_true, true_or, ite_self, Int.add_sub_cancel, Int.sub_add_cancel, b_lc1, b_lc2, b_lc3, b_lc4, b_lc5, up_eq, up_ei, up_n1, up_n2, W32i, W8i, W16i, W64i, if_ps, if_ng, and_tr, fil_n1, fil_in, fil_out, zer, arr_o, fil_n1]; intro k j a b; have b : k < L.ob (L.tu n) := b; exact h.po k j a (by omega)
    case na => simp (disch := omega) only [true_and, and_true, and_self, if_true, if_false, ite_true, ite_false, reduceIte, Int.reduceEq, Int.reduceNe, Int.reduceLT, Int.reduceLE, Int.reduceAdd, Int.reduceSub, Int.reduceMul, Int.reduceNeg, Int.reduceMod, Int.reduceDiv, Int.reduceToNat, Nat.reduceAdd, Nat.reduceLeDiff, List.length_cons, List.length_nil, not_false_eq_true, not_true_eq_false, ne_eq, or_false, false_or, or_self, false_and, and_false, or_true, true_or, ite_self, Int.add_sub_cancel, Int.sub_add_cancel, b_lc1, b_lc2, b_lc3, b_lc4, b_lc5, up_eq, up_ei, up_n1, up_n2, W32i, W8i, W16i, W64i, if_ps, if_ng, and_tr, fil_n1, fil_in, fil_out, zer, arr_o, fil_n1]; intro k j a b; have b : k < L.ob (L.tu n) := b; exact h.na k j a (by omega)
    case am => simp (disch := omega) only [true_and, and_true, and_self, if_true, if_false, ite_true, ite_false, reduceIte, Int.reduceEq, Int.reduceNe, Int.reduceLT, Int.reduceLE, Int.reduceAdd, Int.reduceSub, Int.reduceMul, Int.reduceNeg, Int.reduceMod, Int.reduceDiv, Int.reduceToNat, Nat.reduceAdd, Nat.reduceLeDiff, List.length_cons, List.length_nil, not_false_eq_true, not_true_eq_false, ne_eq, or_false, false_or, or_self, false_and, and_false, or_true, true_or, ite_self, Int.add_sub_cancel, Int.sub_add_cancel, b_lc1, b_lc2, b_lc3, b_lc4, b_lc5, up_eq, up_ei, up_n1, up_n2, W32i, W8i, W16i, W64i, if_ps, if_ng, and_tr, fil_n1, fil_in, fil_out, zer, arr_o, fil_n1]; intro k j a b; have b : k < L.ob (L.tu n) := b; exact h.am k j a (by omega)
    case da => simp (disch := omega) only [true_and, and_true, and_self, if_true, if_false, ite_true, ite_false, reduceIte, Int.reduceEq, Int.reduceNe, Int.reduceLT, Int.reduceLE, Int.reduceAdd, Int.reduceSub, Int.reduceMul, Int.reduceNeg, Int.reduceMod, Int.reduceDiv, Int.reduceToNat, Nat.reduceAdd, Nat.reduceLeDiff, List.length_cons, List.length_nil, not_false_eq_true, not_true_eq_false, ne_eq, or_false, false_or, or_self, false_and, and_false, or_true, true_or, ite_self, Int.add_sub_cancel, Int.sub_add_cancel, b_lc1, b_lc2, b_lc3, b_lc4, b_lc5, up_eq, up_ei, up_n1, up_n2, W32i, W8i, W16i, W64i, if_ps, if_ng, and_tr, fil_n1, fil_in, fil_out, zer, arr_o, fil_n1]; intro k j a b; have b : k < L.ob (L.tu n) := b; exact h.da k j a (by omega)
  · simp (disch := omega) only [true_and, and_true, and_self, if_true, if_false, ite_true, ite_false, reduceIte, Int.reduceEq, Int.reduceNe, Int.reduceLT, Int.reduceLE, Int.reduceAdd, Int.reduceSub, Int.reduceMul, Int.reduceNeg, Int.reduceMod, Int.reduceDiv, Int.reduceToNat, Nat.reduceAdd, Nat.reduceLeDiff, List.length_cons, List.length_nil, not_false_eq_true, not_true_eq_false, ne_eq, or_false, false_or, or_self, false_and, and_false, or_true, true_or, ite_self, Int.add_sub_cancel, Int.sub_add_cancel, b_lc1, b_lc2, b_lc3, b_lc4, b_lc5, up_eq, up_ei, up_n1, up_n2, W32i, W8i, W16i, W64i, if_ps, if_ng, and_tr, fil_n1, fil_in, fil_out, zer, arr_o, fil_n1]
  · intro f a b c d e
    simp (disch := omega) only [true_and, and_true, and_self, if_true, if_false, ite_true, ite_false, reduceIte, Int.reduceEq, Int.reduceNe, Int.reduceLT, Int.reduceLE, Int.reduceAdd, Int.reduceSub, Int.reduceMul, Int.reduceNeg, Int.reduceMod, Int.reduceDiv, Int.reduceToNat, Nat.reduceAdd, Nat.reduceLeDiff, List.length_cons, List.length_nil, not_false_eq_true, not_true_eq_false, ne_eq, or_false, false_or, or_self, false_and, and_false, or_true, true_or, ite_self, Int.add_sub_cancel, Int.sub_add_cancel, b_lc1, b_lc2, b_lc3, b_lc4, b_lc5, up_eq, up_ei, up_n1, up_n2, W32i, W8i, W16i, W64i, if_ps, if_ng, and_tr, fil_n1, fil_in, fil_out, zer, arr_o, fil_n1]
theorem LW.undo {L : Led} (w : LW L) (n : Int) (h0 : 0 ≤ n) (h1 : n ≤ L.ud) : LW (L.undo n) := by
  have e4 := w.ud
  have e5 := w.ht
  have e7 := w.e
  have e8 := w.n
  have tb := w.tub n h0 h1
  have mo := w.mono (t := L.tu n) (u := L.T) tb.1 tb.2 (by omega)
  have mo0 := w.mono (t := 0) (u := L.tu n) (by omega) tb.1 tb.2
  have oT := w.obT
  have o0 := w.ob0
  have s0 := w.sb0
  have hT := w.T
  have spc : ∀ i, (L.undo n).sp i = -1 ∨ (L.undo n).sp i = L.sp i ∧ ∀ s, L.sb (L.tu n) ≤ s → s < L.sb L.T → L.se s ≠ i := by
    intro i
    simp only [Led_mk, Led.undo, Led.cut]
    by_cases r : ∃ s, L.sb (L.tu n) ≤ s ∧ s < L.sb L.T ∧ L.se s = i
    · left; apply zunS_yes; obtain ⟨s, a, b, c⟩ := r; exact ⟨s, by omega, b, c⟩
    · right; refine ⟨zunS_no _ _ _ _ _ (fun s a b c => r ⟨s, by omega, b, c⟩), fun s a b c => r ⟨s, a, b, c⟩⟩
  have spt : ∀ i, 0 ≤ i → i < L.ob (L.tu n) → (L.undo n).sp i = -1 ∨ (L.undo n).sp i = L.sp i ∧ L.sp i < L.ht - n := by
    intro i a b
    rcases spc i with c | ⟨c, d⟩
    · exact Or.inl c
    · right
      refine ⟨c, ?_⟩
      by_cases q : 0 ≤ L.sp i
      · obtain ⟨s, y1, y2, y3⟩ := w.spe i a (by omega) q
        obtain ⟨u, x1, x2, x3, x4⟩ := w.txs s y1 L.T.toNat (by omega) (by rw [show (L.T.toNat : Int) = L.T by omega]; exact y2)
        have x5 := (w.tw u x1 (by omega)).se s x3 x4
        rw [y3] at x5
        have x6 := w.tut n h0 h1 u x1 (by omega)
        have x7 : u < L.tu n := by
          by_cases r : u < L.tu n
          · exact r
          · have := w.mono (t := L.tu n) (u := u) tb.1 (by omega) (by omega)
            exact absurd y3 (d s (by omega) y2)
        omega
      · omega
  apply LW.mk1
  case n => simp only [Led_mk, Led.undo, Led.cut]; omega
  case e => simp only [Led_mk, Led.undo, Led.cut]; omega
  case T => simp only [Led_mk, Led.undo, Led.cut]; omega
  case ht => simp only [Led_mk, Led.undo, Led.cut]; omega
  case ud => simp only [Led_mk, Led.undo, Led.cut]; omega
  case bg => exact Or.inr rfl
  case ow =>
    intro i a b
    have b : i < L.ob (L.tu n) := b
    have q := w.ow i a (by omega)
    refine OW.mk1 (q.ad) (?_) (?_) (q.kd) (q.ds) (q.po) (q.p0) (q.inc)
    · have := q.md
      show 0 ≤ L.md i ∧ L.md i ≤ L.ht - n
      by_cases r : i < L.e
      · rw [w.md0 i a r]; omega
      · obtain ⟨u, x1, x2, x3, x4⟩ := w.txo (L.tu n).toNat i (by omega) (by omega) (by rw [show ((L.tu n).toNat : Int) = L.tu n by omega]; omega)
        have x5 := (w.tw u x1 (by omega)).md _ x3 x4
        have x6 := w.tut n h0 h1 u x1 (by omega)
        omega
    · have := spt i a b
      have q := q.sp
      show -1 ≤ (L.undo n).sp i ∧ (L.undo n).sp i ≤ L.ht - n
      omega
  case tw =>
    intro t a b
    have b : t < L.tu n := b
    have q := w.tw t a (by omega)
    have q1 := q.th
    have q2 := w.tut n h0 h1 t a (by omega)
    refine TW.mk1 (by show 0 ≤ L.th t ∧ L.th t ≤ L.ht - n; omega) (q.ob) (q.sb) (q.md) (?_) (q.pt) (q.tk)
    intro s c d
    have c : L.sb t ≤ s := c
    have d : s < L.sb (t + 1) := d
    have x := q.se s c d
    refine ⟨x.1, x.2.1, ?_⟩
    show (L.undo n).sp (L.se s) = L.th t
    rcases spc (L.se s) with z | ⟨z, y⟩
    · exfalso
      have m1 := w.mono (t := t + 1) (u := L.tu n) (by omega) (by omega) tb.2
      have m2 := w.mono (t := 0) (u := t) (by omega) a (by omega)
      have : (L.undo n).sp (L.se s) = L.sp (L.se s) := by
        simp only [Led_mk, Led.undo, Led.cut]
        apply zunS_no
        intro s' z1 z2 z3
        exact w.inj s s' (by omega) (by omega) z2 z3.symm
      omega
    · rw [z]; exact x.2.2
  case md0 => exact w.md0
  case ob0 => exact w.ob0
  case obT => rfl
  case sb0 => exact w.sb0
  case thm => intro t u a b c; have c : u < L.tu n := c; exact w.thm t u a b (by omega)
  case spe =>
    intro i a b c
    have b : i < L.ob (L.tu n) := b
    rcases spc i with z | ⟨z, y⟩
    · omega
    · obtain ⟨s, y1, y2, y3⟩ := w.spe i a (by omega) (by omega)
      refine ⟨s, y1, ?_, y3⟩
      show s < L.sb (L.tu n)
      by_cases r : s < L.sb (L.tu n)
      · exact r
      · exact absurd y3 (y s (by omega) y2)
  case inj => intro s u a b c; have c : u < L.sb (L.tu n) := c; exact w.inj s u a b (by omega)
  case mr =>
    intro k a b
    have b : k < L.ht - n := b
    have q := w.mr k a (by omega)
    refine ⟨q.1, ?_⟩
    show L.mr k ≤ L.tu n
    unfold Led.tu
    rw [if_neg (by omega)]
    have q' := w.mr (L.ht - n - 1) (by omega) (by omega)
    by_cases r : L.mr k ≤ L.mr (L.ht - n - 1)
    · exact r
    · have z1 := w.mrt k (L.mr (L.ht - n - 1)) a (by omega) q'.1 (by omega)
      have z2 := w.mrt (L.ht - n - 1) (L.mr (L.ht - n - 1)) (by omega) (by omega) q'.1 (by omega)
      omega
  case mrt => intro k t a b c d; have b : k < L.ht - n := b; have d : t < L.tu n := d; exact w.mrt k t a (by omega) c (by omega)
  case sup => intro t p nm a b; have b : t ≤ L.tu n := b; exact w.sup t p nm a (by omega)
