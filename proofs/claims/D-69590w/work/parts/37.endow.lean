-- uses: 36
def Led.cE (L : Led) (o a : Int) : Prop := L.bg = 0 ∧ 0 ≤ o ∧ o < 256 ∧ 2 ≤ a ∧ a ≤ 4611686018427387904 ∧ L.n < 1024 ∧ L.tot 0 0 ≤ 4611686018427387904 - a
def Led.endow (L : Led) (o a : Int) : Led := (Led.mk1 (((L.begin o).coin 0 0 a).datum (w8 (w8 0))).n (L.e + 1) (((L.begin o).coin 0 0 a).datum (w8 (w8 0))).T (((L.begin o).coin 0 0 a).datum (w8 (w8 0))).ht (((L.begin o).coin 0 0 a).datum (w8 (w8 0))).ud (((L.begin o).coin 0 0 a).datum (w8 (w8 0))).bg (((L.begin o).coin 0 0 a).datum (w8 (w8 0))).ad (((L.begin o).coin 0 0 a).datum (w8 (w8 0))).md (((L.begin o).coin 0 0 a).datum (w8 (w8 0))).sp (((L.begin o).coin 0 0 a).datum (w8 (w8 0))).kd (((L.begin o).coin 0 0 a).datum (w8 (w8 0))).ds (((L.begin o).coin 0 0 a).datum (w8 (w8 0))).po (((L.begin o).coin 0 0 a).datum (w8 (w8 0))).na (((L.begin o).coin 0 0 a).datum (w8 (w8 0))).am (((L.begin o).coin 0 0 a).datum (w8 (w8 0))).da (((L.begin o).coin 0 0 a).datum (w8 (w8 0))).th (fun t => L.ob t + 1) (((L.begin o).coin 0 0 a).datum (w8 (w8 0))).sb (((L.begin o).coin 0 0 a).datum (w8 (w8 0))).se (((L.begin o).coin 0 0 a).datum (w8 (w8 0))).pt (((L.begin o).coin 0 0 a).datum (w8 (w8 0))).tk (((L.begin o).coin 0 0 a).datum (w8 (w8 0))).mr)
theorem x_endow {S : Sto} {L : Led} (h : XL S L) (w : LW L) (o a : Int) (hc : L.cE o a) (ht : 0 ≤ L.tot 0 0 ∧ L.tot 0 0 ≤ 4611686018427387904) : ∃ S', zR 5 6 [(11, 11), (0, o), (1, a)] S S' (0, L.n) ∧ XL S' (L.endow o a) := by
  obtain ⟨c1, c2, c3, c4, c5, c6, c7⟩ := hc
  have hn := w.n
  obtain ⟨S1, r1, x1, f1⟩ := x_begin h w.lb o c2 (by omega) c6
  have w1 := w.lb.begin o c6
  have n1 : (L.begin o).n = L.n + 1 := rfl
  have k1 : (L.begin o).kd L.n = 0 := fset_e _ _ _ _ rfl
  obtain ⟨S2, r2, x2, f2⟩ := x_coin x1 w1 0 0 a (by omega) (by rw [n1, show L.n + 1 - 1 = L.n by omega, k1]; omega)
  have w2 := w1.coin 0 0 a (by omega) (by rw [n1, show L.n + 1 - 1 = L.n by omega, k1]; omega)
  have n2 : ((L.begin o).coin 0 0 a).n = L.n + 1 := rfl
  have k2 : ((L.begin o).coin 0 0 a).ds L.n = 0 := fset_e _ _ _ _ rfl
  obtain ⟨S3, r3, x3, f3⟩ := x_datum x2 w2 0 (by omega) (by rw [n2, show L.n + 1 - 1 = L.n by omega, k2]; omega)
  unfold zR at r1 r2 r3
  have hs := h.size
  have hb := h.bg
  have hh := h.ht
  refine ⟨S3, fun Q => ?_, x3.sh 1 _⟩
  simp (disch := omega) only [bcd, true_and, and_true, and_self, if_true, if_false, ite_true, ite_false, reduceIte, Int.reduceEq, Int.reduceNe, Int.reduceLT, Int.reduceLE, Int.reduceAdd, Int.reduceSub, Int.reduceMul, Int.reduceNeg, Int.reduceMod, Int.reduceDiv, Int.reduceToNat, Nat.reduceAdd, Nat.reduceLeDiff, List.length_cons, List.length_nil, not_false_eq_true, not_true_eq_false, ne_eq, or_false, false_or, or_self, false_and, and_false, or_true, true_or, ite_self, Int.add_sub_cancel, Int.sub_add_cancel, b_lc1, b_lc2, b_lc3, b_lc4, b_lc5, up_eq, up_ei, up_n1, up_n2, W32i, W8i, W16i, W64i, if_ps, if_ng, and_tr, fil_n1, fil_in, fil_out, M5, x_totL h w, b_lc1, b_lc2, b_lc3, b_lc4, b_lc5, hb, c1, hs, hh, r1, r2, r3]
theorem x_endow0 {S : Sto} {L : Led} (h : XL S L) (w : LW L) (o a : Int) (hc : ¬ L.cE o a) (ht : 0 ≤ L.tot 0 0 ∧ L.tot 0 0 ≤ 4611686018427387904) (hi : zLong a) : zR 5 6 [(11, 11), (0, o), (1, a)] S S (0, -1) := by
  intro Q
  have hs := h.size
  have hb := h.bg
  unfold zLong at hi
  by_cases c1 : L.bg = 0
  · by_cases c2 : 0 ≤ o ∧ o < 256
    · by_cases c3 : 2 ≤ a ∧ a ≤ 4611686018427387904
      · by_cases c4 : L.n < 1024
        · have c7 : ¬ L.tot 0 0 ≤ 4611686018427387904 - a := fun q => hc ⟨c1, c2.1, c2.2, c3.1, c3.2, c4, q⟩
          simp (disch := omega) only [bcd, true_and, and_true, and_self, if_true, if_false, ite_true, ite_false, reduceIte, Int.reduceEq, Int.reduceNe, Int.reduceLT, Int.reduceLE, Int.reduceAdd, Int.reduceSub, Int.reduceMul, Int.reduceNeg, Int.reduceMod, Int.reduceDiv, Int.reduceToNat, Nat.reduceAdd, Nat.reduceLeDiff, List.length_cons, List.length_nil, not_false_eq_true, not_true_eq_false, ne_eq, or_false, false_or, or_self, false_and, and_false, or_true, true_or, ite_self, Int.add_sub_cancel, Int.sub_add_cancel, b_lc1, b_lc2, b_lc3, b_lc4, b_lc5, up_eq, up_ei, up_n1, up_n2, W32i, W8i, W16i, W64i, if_ps, if_ng, and_tr, fil_n1, fil_in, fil_out, M5, x_totL h w, b_lc1, b_lc2, b_lc3, b_lc4, b_lc5, hb, c1, hs]
        · simp (disch := omega) only [bcd, true_and, and_true, and_self, if_true, if_false, ite_true, ite_false, reduceIte, Int.reduceEq, Int.reduceNe, Int.reduceLT, Int.reduceLE, Int.reduceAdd, Int.reduceSub, Int.reduceMul, Int.reduceNeg, Int.reduceMod, Int.reduceDiv, Int.reduceToNat, Nat.reduceAdd, Nat.reduceLeDiff, List.length_cons, List.length_nil, not_false_eq_true, not_true_eq_false, ne_eq, or_false, false_or, or_self, false_and, and_false, or_true, true_or, ite_self, Int.add_sub_cancel, Int.sub_add_cancel, b_lc1, b_lc2, b_lc3, b_lc4, b_lc5, up_eq, up_ei, up_n1, up_n2, W32i, W8i, W16i, W64i, if_ps, if_ng, and_tr, fil_n1, fil_in, fil_out, M5, x_totL h w, b_lc1, b_lc2, b_lc3, b_lc4, b_lc5, hb, c1, hs]
      · by_cases c4 : 2 ≤ a <;> simp (disch := omega) only [bcd, true_and, and_true, and_self, if_true, if_false, ite_true, ite_false, reduceIte, Int.reduceEq, Int.reduceNe, Int.reduceLT, Int.reduceLE, Int.reduceAdd, Int.reduceSub, Int.reduceMul, Int.reduceNeg, Int.reduceMod, Int.reduceDiv, Int.reduceToNat, Nat.reduceAdd, Nat.reduceLeDiff, List.length_cons, List.length_nil, not_false_eq_true, not_true_eq_false, ne_eq, or_false, false_or, or_self, false_and, and_false, or_true, true_or, ite_self, Int.add_sub_cancel, Int.sub_add_cancel, b_lc1, b_lc2, b_lc3, b_lc4, b_lc5, up_eq, up_ei, up_n1, up_n2, W32i, W8i, W16i, W64i, if_ps, if_ng, and_tr, fil_n1, fil_in, fil_out, M5, b_lc1, b_lc2, b_lc3, b_lc4, b_lc5, hb, c1, hs]
    · by_cases c4 : 0 ≤ o <;> simp (disch := omega) only [bcd, true_and, and_true, and_self, if_true, if_false, ite_true, ite_false, reduceIte, Int.reduceEq, Int.reduceNe, Int.reduceLT, Int.reduceLE, Int.reduceAdd, Int.reduceSub, Int.reduceMul, Int.reduceNeg, Int.reduceMod, Int.reduceDiv, Int.reduceToNat, Nat.reduceAdd, Nat.reduceLeDiff, List.length_cons, List.length_nil, not_false_eq_true, not_true_eq_false, ne_eq, or_false, false_or, or_self, false_and, and_false, or_true, true_or, ite_self, Int.add_sub_cancel, Int.sub_add_cancel, b_lc1, b_lc2, b_lc3, b_lc4, b_lc5, up_eq, up_ei, up_n1, up_n2, W32i, W8i, W16i, W64i, if_ps, if_ng, and_tr, fil_n1, fil_in, fil_out, M5, b_lc1, b_lc2, b_lc3, b_lc4, b_lc5, hb, c1, hs]
  · simp (disch := omega) only [bcd, true_and, and_true, and_self, if_true, if_false, ite_true, ite_false, reduceIte, Int.reduceEq, Int.reduceNe, Int.reduceLT, Int.reduceLE, Int.reduceAdd, Int.reduceSub, Int.reduceMul, Int.reduceNeg, Int.reduceMod, Int.reduceDiv, Int.reduceToNat, Nat.reduceAdd, Nat.reduceLeDiff, List.length_cons, List.length_nil, not_false_eq_true, not_true_eq_false, ne_eq, or_false, false_or, or_self, false_and, and_false, or_true, true_or, ite_self, Int.add_sub_cancel, Int.sub_add_cancel, b_lc1, b_lc2, b_lc3, b_lc4, b_lc5, up_eq, up_ei, up_n1, up_n2, W32i, W8i, W16i, W64i, if_ps, if_ng, and_tr, fil_n1, fil_in, fil_out, M5, b_lc1, b_lc2, b_lc3, b_lc4, b_lc5, hb, c1, hs]
theorem m_endow {S : Sto} {L : Led} (h : ML S L) (w : LW L) (o a : Int) (hc : L.cE o a) (ht : 0 ≤ L.tot 0 0 ∧ L.tot 0 0 ≤ 4611686018427387904) (h64 : L.ht ≤ 64) (hp : L.pot = 0) : ∃ S', zR 267 5 [(34, 34), (0, o), (1, a)] S S' (0, L.n) ∧ ML S' (L.endow o a) ∧ S' 34 63 = 0 ∧ ∀ f, f ≠ 11 → f ≠ 12 → f ≠ 63 → S' 34 f = S 34 f := by
  obtain ⟨c1, c2, c3, c4, c5, c6, c7⟩ := hc
  have hn := w.n
  have he := w.e
  have h0 : ML (up S 34 63 0) L := by
    obtain ⟨h_made, h_endw, h_ad, h_md, h_sp, h_kd, h_ds, h_po, h_na, h_am, h_da, h_ht, h_ud, h_bg, h_pts, h_aps, h_tks⟩ := h
    apply ML.mk1 <;> simp (disch := omega) only [true_and, and_true, and_self, if_true, if_false, ite_true, ite_false, reduceIte, Int.reduceEq, Int.reduceNe, Int.reduceLT, Int.reduceLE, Int.reduceAdd, Int.reduceSub, Int.reduceMul, Int.reduceNeg, Int.reduceMod, Int.reduceDiv, Int.reduceToNat, Nat.reduceAdd, Nat.reduceLeDiff, List.length_cons, List.length_nil, not_false_eq_true, not_true_eq_false, ne_eq, or_false, false_or, or_self, false_and, and_false, or_true, true_or, ite_self, Int.add_sub_cancel, Int.sub_add_cancel, b_lc1, b_lc2, b_lc3, b_lc4, b_lc5, up_eq, up_ei, up_n1, up_n2, W32i, W8i, W16i, W64i, if_ps, if_ng, and_tr, fil_n1, fil_in, fil_out] <;> assumption
  have q1 := h.ht
  have q2 := w.ht
  obtain ⟨S1, r1, x1, f1⟩ := m_make h0 w.lb o c6
  have w1 := w.lb.begin o c6
  have n1 : (L.begin o).n = L.n + 1 := rfl
  have k1 : (L.begin o).kd L.n = 0 := fset_e _ _ _ _ rfl
  obtain ⟨S2, r2, x2, f2⟩ := m_hold x1 w1 L.n 0 0 a (by omega) (by omega) (by rw [n1, show L.n + 1 - 1 = L.n by omega, k1]; omega)
  have w2 := w1.coin 0 0 a (by omega) (by rw [n1, show L.n + 1 - 1 = L.n by omega, k1]; omega)
  unfold zR at r1 r2
  have hs := h.made
  have hb := h.bg
  have hw := h.endw
  have e2 : S2 34 12 = L.e := x2.endw
  have n2 : ((L.begin o).coin 0 0 a).n = L.n + 1 := rfl
  have k2 : ((L.begin o).coin 0 0 a).ds L.n = 0 := fset_e _ _ _ _ rfl
  have x3 := (x2.dat w2 (w8 (w8 0)) L.n (128 * L.n) 1 (by omega) (by omega) (by omega) (by omega)).en (L.e + 1) (fun t => L.ob t + 1)
  refine ⟨_, fun Q => ?_, x3, ?_, ?_⟩
  · simp (disch := omega) only [bcd, true_and, and_true, and_self, if_true, if_false, ite_true, ite_false, reduceIte, Int.reduceEq, Int.reduceNe, Int.reduceLT, Int.reduceLE, Int.reduceAdd, Int.reduceSub, Int.reduceMul, Int.reduceNeg, Int.reduceMod, Int.reduceDiv, Int.reduceToNat, Nat.reduceAdd, Nat.reduceLeDiff, List.length_cons, List.length_nil, not_false_eq_true, not_true_eq_false, ne_eq, or_false, false_or, or_self, false_and, and_false, or_true, true_or, ite_self, Int.add_sub_cancel, Int.sub_add_cancel, b_lc1, b_lc2, b_lc3, b_lc4, b_lc5, up_eq, up_ei, up_n1, up_n2, W32i, W8i, W16i, W64i, if_ps, if_ng, and_tr, fil_n1, fil_in, fil_out, M267, m_totL h0 w h64, hp, b_lc1, b_lc2, b_lc3, b_lc4, b_lc5, hb, c1, hs, r1, r2, e2, Int.zero_add]
  · simp (disch := omega) only [true_and, and_true, and_self, if_true, if_false, ite_true, ite_false, reduceIte, Int.reduceEq, Int.reduceNe, Int.reduceLT, Int.reduceLE, Int.reduceAdd, Int.reduceSub, Int.reduceMul, Int.reduceNeg, Int.reduceMod, Int.reduceDiv, Int.reduceToNat, Nat.reduceAdd, Nat.reduceLeDiff, List.length_cons, List.length_nil, not_false_eq_true, not_true_eq_false, ne_eq, or_false, false_or, or_self, false_and, and_false, or_true, true_or, ite_self, Int.add_sub_cancel, Int.sub_add_cancel, b_lc1, b_lc2, b_lc3, b_lc4, b_lc5, up_eq, up_ei, up_n1, up_n2, W32i, W8i, W16i, W64i, if_ps, if_ng, and_tr, fil_n1, fil_in, fil_out]
    rw [f2, f1 _ (by omega)]
    simp (disch := omega) only [true_and, and_true, and_self, if_true, if_false, ite_true, ite_false, reduceIte, Int.reduceEq, Int.reduceNe, Int.reduceLT, Int.reduceLE, Int.reduceAdd, Int.reduceSub, Int.reduceMul, Int.reduceNeg, Int.reduceMod, Int.reduceDiv, Int.reduceToNat, Nat.reduceAdd, Nat.reduceLeDiff, List.length_cons, List.length_nil, not_false_eq_true, not_true_eq_false, ne_eq, or_false, false_or, or_self, false_and, and_false, or_true, true_or, ite_self, Int.add_sub_cancel, Int.sub_add_cancel, b_lc1, b_lc2, b_lc3, b_lc4, b_lc5, up_eq, up_ei, up_n1, up_n2, W32i, W8i, W16i, W64i, if_ps, if_ng, and_tr, fil_n1, fil_in, fil_out]
  · intro f a1 a2 a3
    simp (disch := omega) only [true_and, and_true, and_self, if_true, if_false, ite_true, ite_false, reduceIte, Int.reduceEq, Int.reduceNe, Int.reduceLT, Int.reduceLE, Int.reduceAdd, Int.reduceSub, Int.reduceMul, Int.reduceNeg, Int.reduceMod, Int.reduceDiv, Int.reduceToNat, Nat.reduceAdd, Nat.reduceLeDiff, List.length_cons, List.length_nil, not_false_eq_true, not_true_eq_false, ne_eq, or_false, false_or, or_self, false_and, and_false, or_true, true_or, ite_self, Int.add_sub_cancel, Int.sub_add_cancel, b_lc1, b_lc2, b_lc3, b_lc4, b_lc5, up_eq, up_ei, up_n1, up_n2, W32i, W8i, W16i, W64i, if_ps, if_ng, and_tr, fil_n1, fil_in, fil_out]
    rw [f2, f1 _ (by omega)]
    simp (disch := omega) only [true_and, and_true, and_self, if_true, if_false, ite_true, ite_false, reduceIte, Int.reduceEq, Int.reduceNe, Int.reduceLT, Int.reduceLE, Int.reduceAdd, Int.reduceSub, Int.reduceMul, Int.reduceNeg, Int.reduceMod, Int.reduceDiv, Int.reduceToNat, Nat.reduceAdd, Nat.reduceLeDiff, List.length_cons, List.length_nil, not_false_eq_true, not_true_eq_false, ne_eq, or_false, false_or, or_self, false_and, and_false, or_true, true_or, ite_self, Int.add_sub_cancel, Int.sub_add_cancel, b_lc1, b_lc2, b_lc3, b_lc4, b_lc5, up_eq, up_ei, up_n1, up_n2, W32i, W8i, W16i, W64i, if_ps, if_ng, and_tr, fil_n1, fil_in, fil_out]
theorem m_endow0 {S : Sto} {L : Led} (h : ML S L) (w : LW L) (o a : Int) (hc : ¬ L.cE o a) (ht : 0 ≤ L.tot 0 0 ∧ L.tot 0 0 ≤ 4611686018427387904) (hi : zLong a) (h64 : L.ht ≤ 64) (hp : L.bg = 0 → L.pot = 0) : zR 267 5 [(34, 34), (0, o), (1, a)] S (up S 34 63 0) (0, -1) := by
  intro Q
  have hs := h.made
  have hb := h.bg
  have hn := w.n
  have h0 := h.thr
  unfold zLong at hi
  by_cases c1 : L.bg = 0
  · have hp := hp c1
    by_cases c2 : 0 ≤ o ∧ o < 256
    · by_cases c3 : 2 ≤ a ∧ a ≤ 4611686018427387904
      · by_cases c7 : L.tot 0 0 ≤ 4611686018427387904 - a
        · have c4 : ¬ L.n < 1024 := fun q => hc ⟨c1, c2.1, c2.2, c3.1, c3.2, q, c7⟩
          simp (disch := omega) only [bcd, true_and, and_true, and_self, if_true, if_false, ite_true, ite_false, reduceIte, Int.reduceEq, Int.reduceNe, Int.reduceLT, Int.reduceLE, Int.reduceAdd, Int.reduceSub, Int.reduceMul, Int.reduceNeg, Int.reduceMod, Int.reduceDiv, Int.reduceToNat, Nat.reduceAdd, Nat.reduceLeDiff, List.length_cons, List.length_nil, not_false_eq_true, not_true_eq_false, ne_eq, or_false, false_or, or_self, false_and, and_false, or_true, true_or, ite_self, Int.add_sub_cancel, Int.sub_add_cancel, b_lc1, b_lc2, b_lc3, b_lc4, b_lc5, up_eq, up_ei, up_n1, up_n2, W32i, W8i, W16i, W64i, if_ps, if_ng, and_tr, fil_n1, fil_in, fil_out, M267, m_totL h0 w h64, hp, b_lc1, b_lc2, b_lc3, b_lc4, b_lc5, hb, c1, hs, Int.zero_add]
        · simp (disch := omega) only [bcd, true_and, and_true, and_self, if_true, if_false, ite_true, ite_false, reduceIte, Int.reduceEq, Int.reduceNe, Int.reduceLT, Int.reduceLE, Int.reduceAdd, Int.reduceSub, Int.reduceMul, Int.reduceNeg, Int.reduceMod, Int.reduceDiv, Int.reduceToNat, Nat.reduceAdd, Nat.reduceLeDiff, List.length_cons, List.length_nil, not_false_eq_true, not_true_eq_false, ne_eq, or_false, false_or, or_self, false_and, and_false, or_true, true_or, ite_self, Int.add_sub_cancel, Int.sub_add_cancel, b_lc1, b_lc2, b_lc3, b_lc4, b_lc5, up_eq, up_ei, up_n1, up_n2, W32i, W8i, W16i, W64i, if_ps, if_ng, and_tr, fil_n1, fil_in, fil_out, M267, m_totL h0 w h64, hp, b_lc1, b_lc2, b_lc3, b_lc4, b_lc5, hb, c1, hs, Int.zero_add]
      · by_cases c4 : 2 ≤ a <;> simp (disch := omega) only [bcd, true_and, and_true, and_self, if_true, if_false, ite_true, ite_false, reduceIte, Int.reduceEq, Int.reduceNe, Int.reduceLT, Int.reduceLE, Int.reduceAdd, Int.reduceSub, Int.reduceMul, Int.reduceNeg, Int.reduceMod, Int.reduceDiv, Int.reduceToNat, Nat.reduceAdd, Nat.reduceLeDiff, List.length_cons, List.length_nil, not_false_eq_true, not_true_eq_false, ne_eq, or_false, false_or, or_self, false_and, and_false, or_true, true_or, ite_self, Int.add_sub_cancel, Int.sub_add_cancel, b_lc1, b_lc2, b_lc3, b_lc4, b_lc5, up_eq, up_ei, up_n1, up_n2, W32i, W8i, W16i, W64i, if_ps, if_ng, and_tr, fil_n1, fil_in, fil_out, M267, b_lc1, b_lc2, b_lc3, b_lc4, b_lc5, hb, c1, hs]
    · by_cases c4 : 0 ≤ o <;> simp (disch := omega) only [bcd, true_and, and_true, and_self, if_true, if_false, ite_true, ite_false, reduceIte, Int.reduceEq, Int.reduceNe, Int.reduceLT, Int.reduceLE, Int.reduceAdd, Int.reduceSub, Int.reduceMul, Int.reduceNeg, Int.reduceMod, Int.reduceDiv, Int.reduceToNat, Nat.reduceAdd, Nat.reduceLeDiff, List.length_cons, List.length_nil, not_false_eq_true, not_true_eq_false, ne_eq, or_false, false_or, or_self, false_and, and_false, or_true, true_or, ite_self, Int.add_sub_cancel, Int.sub_add_cancel, b_lc1, b_lc2, b_lc3, b_lc4, b_lc5, up_eq, up_ei, up_n1, up_n2, W32i, W8i, W16i, W64i, if_ps, if_ng, and_tr, fil_n1, fil_in, fil_out, M267, b_lc1, b_lc2, b_lc3, b_lc4, b_lc5, hb, c1, hs]
  · simp (disch := omega) only [bcd, true_and, and_true, and_self, if_true, if_false, ite_true, ite_false, reduceIte, Int.reduceEq, Int.reduceNe, Int.reduceLT, Int.reduceLE, Int.reduceAdd, Int.reduceSub, Int.reduceMul, Int.reduceNeg, Int.reduceMod, Int.reduceDiv, Int.reduceToNat, Nat.reduceAdd, Nat.reduceLeDiff, List.length_cons, List.length_nil, not_false_eq_true, not_true_eq_false, ne_eq, or_false, false_or, or_self, false_and, and_false, or_true, true_or, ite_self, Int.add_sub_cancel, Int.sub_add_cancel, b_lc1, b_lc2, b_lc3, b_lc4, b_lc5, up_eq, up_ei, up_n1, up_n2, W32i, W8i, W16i, W64i, if_ps, if_ng, and_tr, fil_n1, fil_in, fil_out, M267, b_lc1, b_lc2, b_lc3, b_lc4, b_lc5, hb, c1, hs]
