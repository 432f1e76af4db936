-- uses: 52
/-- a node by its number: form, tag, count, how many nodes it has -/
def fat : F → Int → Int × Int × Int × Int
  | .leaf, _ => (0, 0, 0, 0)
  | .inner _ (fm, tg, tx) _ ks r, i => if i = 0 then (fm, tg, zct fm tx ks, 1 + fsize ks) else if i ≤ fsize ks then fat ks (i - 1) else fat r (i - 1 - fsize ks)
theorem mseg_at {S : Sto} : ∀ (f : F) (lv k p : Int), mseg S lv k p f → ∀ i, 0 ≤ i → i < fsize f → S 134 (k + i) = (fat f i).1 ∧ S 135 (k + i) = (fat f i).2.1 ∧ S 136 (k + i) = (fat f i).2.2.1 ∧ lv ≤ S 140 (k + i)
  | .leaf, _, _, _, _, i, h0, h1 => by simp only [fsize] at h1; omega
  | .inner _ (fm, tg, tx) _ ks r, lv, k, p, h, i, h0, h1 => by
    have s1 := fsize0 ks
    simp only [fsize] at h1
    simp only [mseg] at h
    obtain ⟨⟨a1, a2, a3, a4, a5, a6⟩, b, c⟩ := h
    rw [fat]
    by_cases q : i = 0
    · rw [if_pos q, q, Int.add_zero]
      exact ⟨a1, a2, a3, by omega⟩
    · rw [if_neg q]
      by_cases q2 : i ≤ fsize ks
      · rw [if_pos q2]
        have := mseg_at ks _ _ _ b (i - 1) (by omega) (by omega)
        rw [show k + 1 + (i - 1) = k + i by omega] at this
        exact ⟨this.1, this.2.1, this.2.2.1, by omega⟩
      · rw [if_neg q2]
        have := mseg_at r _ _ _ c (i - 1 - fsize ks) (by omega) (by omega)
        rw [show k + 1 + fsize ks + (i - 1 - fsize ks) = k + i by omega] at this
        exact this
/-- where a node's nodes end, by levels -/
theorem mseg_wh {S : Sto} {nn : Int} : ∀ (f : F) (lv k p : Int), mseg S lv k p f → k + fsize f ≤ nn → (k + fsize f = nn ∨ S 140 (k + fsize f) < lv) → ∀ i, 0 ≤ i → i < fsize f → 1 ≤ (fat f i).2.2.2 ∧ i + (fat f i).2.2.2 ≤ fsize f ∧ (∀ j, i < j → j < i + (fat f i).2.2.2 → S 140 (k + i) < S 140 (k + j)) ∧ (k + i + (fat f i).2.2.2 = nn ∨ S 140 (k + i + (fat f i).2.2.2) ≤ S 140 (k + i))
  | .leaf, _, _, _, _, _, _, i, h0, h1 => by simp only [fsize] at h1; omega
  | .inner _ (fm, tg, tx) _ ks r, lv, k, p, h, hn, hb, i, h0, h1 => by
    have s1 := fsize0 ks
    have s2 := fsize0 r
    have hm := h
    simp only [fsize] at h1 hn hb ⊢
    simp only [mseg] at h
    obtain ⟨⟨a1, a2, a3, a4, a5, a6⟩, b, c⟩ := h
    have next : k + 1 + fsize ks = nn ∨ S 140 (k + 1 + fsize ks) ≤ lv := by
      match r, c, hb, hn, s2 with
      | .leaf, _, hb, hn, _ => simp only [fsize, Int.add_zero, ← Int.add_assoc] at hb; omega
      | .inner _ (fm', tg', tx') _ ks' r', c, _, _, _ =>
        simp only [mseg] at c
        right; omega
    rw [fat]
    by_cases q : i = 0
    · subst q
      rw [if_pos rfl]
      dsimp only
      refine ⟨by omega, by omega, fun j x y => ?_, ?_⟩
      · have := (mseg_at ks _ _ _ b (j - 1) (by omega) (by omega)).2.2.2
        rw [show k + 1 + (j - 1) = k + j by omega] at this
        rw [Int.add_zero]
        omega
      · rw [Int.add_zero, show k + (1 + fsize ks) = k + 1 + fsize ks by omega]
        omega
    · rw [if_neg q]
      by_cases q2 : i ≤ fsize ks
      · rw [if_pos q2]
        have w := mseg_wh (nn := nn) ks _ _ _ b (by omega) (by omega) (i - 1) (by omega) (by omega)
        obtain ⟨w1, w2, w3, w4⟩ := w
        refine ⟨w1, by omega, fun j x y => ?_, ?_⟩
        · have := w3 (j - 1) (by omega) (by omega)
          rw [show k + 1 + (i - 1) = k + i by omega, show k + 1 + (j - 1) = k + j by omega] at this
          exact this
        · rw [show k + 1 + (i - 1) = k + i by omega] at w4
          exact w4
      · rw [if_neg q2]
        have w := mseg_wh (nn := nn) r _ _ _ c (by omega) (by rw [show k + 1 + fsize ks + fsize r = k + (1 + fsize ks + fsize r) by omega]; exact hb) (i - 1 - fsize ks) (by omega) (by omega)
        obtain ⟨w1, w2, w3, w4⟩ := w
        refine ⟨w1, by omega, fun j x y => ?_, ?_⟩
        · have := w3 (j - 1 - fsize ks) (by omega) (by omega)
          rw [show k + 1 + fsize ks + (i - 1 - fsize ks) = k + i by omega, show k + 1 + fsize ks + (j - 1 - fsize ks) = k + j by omega] at this
          exact this
        · rw [show k + 1 + fsize ks + (i - 1 - fsize ks) = k + i by omega] at w4
          exact w4
theorem m_wh1 {S : Sto} {nn : Int} (lv k m : Int) (h1 : S 34 38 = nn) (h2 : nn ≤ 200) (k0 : 0 ≤ k) (hm : k + m ≤ nn) (he : k + m = nn ∨ S 140 (k + m) ≤ S 140 k) (Q : ZQ) : ∀ (c : Nat) (n : Int), n + c = m → 1 ≤ n → (∀ j, k + n ≤ j → j < k + m → S 140 k < S 140 j) →
    zG Cd 276 (Cd 276 111) [(34, 34), (0, lv), (0, k), (0, n)] [] S Q = zG Cd 276 (Cd 276 94) [(34, 34), (0, lv), (0, k + 1), (0, m)] [] (up S 137 k m) Q := by
  intro c
  induction c with
  | zero =>
    intro n a b d
    have : n = m := by omega
    subst this
    rw [L276_111]
    by_cases q : k + n = nn
    · simp (disch := omega) only [bcd, true_and, and_true, and_self, if_true, if_false, ite_true, ite_false, reduceIte, Int.reduceEq, Int.reduceNe, Int.reduceLT, Int.reduceLE, Int.reduceAdd, Int.reduceSub, Int.reduceMul, Int.reduceNeg, Int.reduceMod, Int.reduceDiv, Int.reduceToNat, Nat.reduceAdd, Nat.reduceLeDiff, List.length_cons, List.length_nil, not_false_eq_true, not_true_eq_false, ne_eq, or_false, false_or, or_self, false_and, and_false, or_true, true_or, ite_self, Int.add_sub_cancel, Int.sub_add_cancel, b_lc1, b_lc2, b_lc3, b_lc4, b_lc5, up_eq, up_ei, up_n1, up_n2, W32i, W8i, W16i, W64i, if_ps, if_ng, and_tr, fil_n1, fil_in, fil_out, le_tt, le_ff, lt_tt, lt_ff, eq_tt, eq_ff, M276, h1]
    · have : S 140 (k + n) ≤ S 140 k := by omega
      simp (disch := omega) only [bcd, true_and, and_true, and_self, if_true, if_false, ite_true, ite_false, reduceIte, Int.reduceEq, Int.reduceNe, Int.reduceLT, Int.reduceLE, Int.reduceAdd, Int.reduceSub, Int.reduceMul, Int.reduceNeg, Int.reduceMod, Int.reduceDiv, Int.reduceToNat, Nat.reduceAdd, Nat.reduceLeDiff, List.length_cons, List.length_nil, not_false_eq_true, not_true_eq_false, ne_eq, or_false, false_or, or_self, false_and, and_false, or_true, true_or, ite_self, Int.add_sub_cancel, Int.sub_add_cancel, b_lc1, b_lc2, b_lc3, b_lc4, b_lc5, up_eq, up_ei, up_n1, up_n2, W32i, W8i, W16i, W64i, if_ps, if_ng, and_tr, fil_n1, fil_in, fil_out, le_tt, le_ff, lt_tt, lt_ff, eq_tt, eq_ff, M276, h1]
  | succ c ih =>
    intro n a b d
    have := d (k + n) (by omega) (by omega)
    rw [L276_111]
    simp (disch := omega) only [bcd, true_and, and_true, and_self, if_true, if_false, ite_true, ite_false, reduceIte, Int.reduceEq, Int.reduceNe, Int.reduceLT, Int.reduceLE, Int.reduceAdd, Int.reduceSub, Int.reduceMul, Int.reduceNeg, Int.reduceMod, Int.reduceDiv, Int.reduceToNat, Nat.reduceAdd, Nat.reduceLeDiff, List.length_cons, List.length_nil, not_false_eq_true, not_true_eq_false, ne_eq, or_false, false_or, or_self, false_and, and_false, or_true, true_or, ite_self, Int.add_sub_cancel, Int.sub_add_cancel, b_lc1, b_lc2, b_lc3, b_lc4, b_lc5, up_eq, up_ei, up_n1, up_n2, W32i, W8i, W16i, W64i, if_ps, if_ng, and_tr, fil_n1, fil_in, fil_out, le_tt, le_ff, lt_tt, lt_ff, eq_tt, eq_ff, h1]
    exact ih (n + 1) (by omega) (by omega) (fun j x y => d j (by omega) y)
theorem m_wh2 {nn : Int} (lv : Int) (wz : Int → Int) (h2 : nn ≤ 200) : ∀ (c : Nat) (S : Sto) (k : Int) (y : AV), S 34 38 = nn → S 34 48 = 0 → k + c = nn → 0 ≤ k → (∀ i, k ≤ i → i < nn → 1 ≤ wz i ∧ i + wz i ≤ nn ∧ (∀ j, i < j → j < i + wz i → S 140 i < S 140 j) ∧ (i + wz i = nn ∨ S 140 (i + wz i) ≤ S 140 i)) →
    ∀ Q : ZQ, zG Cd 276 (Cd 276 94) [(34, 34), (0, lv), (0, k), y] [] S Q = Q (fil S 137 k nn wz) (9, 0) := by
  intro c
  induction c with
  | zero =>
    intro S k y h1 hf a b d Q
    rw [L276_94, fil_nil _ _ _ _ _ (by omega)]
    simp (disch := omega) only [bcd, true_and, and_true, and_self, if_true, if_false, ite_true, ite_false, reduceIte, Int.reduceEq, Int.reduceNe, Int.reduceLT, Int.reduceLE, Int.reduceAdd, Int.reduceSub, Int.reduceMul, Int.reduceNeg, Int.reduceMod, Int.reduceDiv, Int.reduceToNat, Nat.reduceAdd, Nat.reduceLeDiff, List.length_cons, List.length_nil, not_false_eq_true, not_true_eq_false, ne_eq, or_false, false_or, or_self, false_and, and_false, or_true, true_or, ite_self, Int.add_sub_cancel, Int.sub_add_cancel, b_lc1, b_lc2, b_lc3, b_lc4, b_lc5, up_eq, up_ei, up_n1, up_n2, W32i, W8i, W16i, W64i, if_ps, if_ng, and_tr, fil_n1, fil_in, fil_out, le_tt, le_ff, lt_tt, lt_ff, eq_tt, eq_ff, M276, h1]
  | succ c ih =>
    intro S k y h1 hf a b d Q
    obtain ⟨d1, d2, d3, d4⟩ := d k (by omega) (by omega)
    rw [L276_94]
    simp (disch := omega) only [bcd, true_and, and_true, and_self, if_true, if_false, ite_true, ite_false, reduceIte, Int.reduceEq, Int.reduceNe, Int.reduceLT, Int.reduceLE, Int.reduceAdd, Int.reduceSub, Int.reduceMul, Int.reduceNeg, Int.reduceMod, Int.reduceDiv, Int.reduceToNat, Nat.reduceAdd, Nat.reduceLeDiff, List.length_cons, List.length_nil, not_false_eq_true, not_true_eq_false, ne_eq, or_false, false_or, or_self, false_and, and_false, or_true, true_or, ite_self, Int.add_sub_cancel, Int.sub_add_cancel, b_lc1, b_lc2, b_lc3, b_lc4, b_lc5, up_eq, up_ei, up_n1, up_n2, W32i, W8i, W16i, W64i, if_ps, if_ng, and_tr, fil_n1, fil_in, fil_out, le_tt, le_ff, lt_tt, lt_ff, eq_tt, eq_ff, M276, h1, hf]
    rw [m_wh1 lv k (wz k) h1 h2 b d2 d4 Q (wz k - 1).toNat 1 (by omega) (by omega) (fun j x y => d3 j (by omega) y)]
    rw [ih (up S 137 k (wz k)) (k + 1) _ (by simp (disch := omega) only [true_and, and_true, and_self, if_true, if_false, ite_true, ite_false, reduceIte, Int.reduceEq, Int.reduceNe, Int.reduceLT, Int.reduceLE, Int.reduceAdd, Int.reduceSub, Int.reduceMul, Int.reduceNeg, Int.reduceMod, Int.reduceDiv, Int.reduceToNat, Nat.reduceAdd, Nat.reduceLeDiff, List.length_cons, List.length_nil, not_false_eq_true, not_true_eq_false, ne_eq, or_false, false_or, or_self, false_and, and_false, or_true, true_or, ite_self, Int.add_sub_cancel, Int.sub_add_cancel, b_lc1, b_lc2, b_lc3, b_lc4, b_lc5, up_eq, up_ei, up_n1, up_n2, W32i, W8i, W16i, W64i, if_ps, if_ng, and_tr, fil_n1, fil_in, fil_out, h1]) (by simp (disch := omega) only [true_and, and_true, and_self, if_true, if_false, ite_true, ite_false, reduceIte, Int.reduceEq, Int.reduceNe, Int.reduceLT, Int.reduceLE, Int.reduceAdd, Int.reduceSub, Int.reduceMul, Int.reduceNeg, Int.reduceMod, Int.reduceDiv, Int.reduceToNat, Nat.reduceAdd, Nat.reduceLeDiff, List.length_cons, List.length_nil, not_false_eq_true, not_true_eq_false, ne_eq, or_false, false_or, or_self, false_and, and_false, or_true, true_or, ite_self, Int.add_sub_cancel, Int.sub_add_cancel, b_lc1, b_lc2, b_lc3, b_lc4, b_lc5, up_eq, up_ei, up_n1, up_n2, W32i, W8i, W16i, W64i, if_ps, if_ng, and_tr, fil_n1, fil_in, fil_out, hf]) (by omega) (by omega) (by intro i x y; simp (disch := omega) only [true_and, and_true, and_self, if_true, if_false, ite_true, ite_false, reduceIte, Int.reduceEq, Int.reduceNe, Int.reduceLT, Int.reduceLE, Int.reduceAdd, Int.reduceSub, Int.reduceMul, Int.reduceNeg, Int.reduceMod, Int.reduceDiv, Int.reduceToNat, Nat.reduceAdd, Nat.reduceLeDiff, List.length_cons, List.length_nil, not_false_eq_true, not_true_eq_false, ne_eq, or_false, false_or, or_self, false_and, and_false, or_true, true_or, ite_self, Int.add_sub_cancel, Int.sub_add_cancel, b_lc1, b_lc2, b_lc3, b_lc4, b_lc5, up_eq, up_ei, up_n1, up_n2, W32i, W8i, W16i, W64i, if_ps, if_ng, and_tr, fil_n1, fil_in, fil_out]; exact d i (by omega) y) Q]
    rw [fil_cons _ _ _ _ _ _ _ (by omega) rfl rfl]
/-- M's reading of its tape -/
theorem m_read {S : Sto} {N : Int} (hs : S 34 2 = N) (h0 : 0 ≤ N) (h4 : N ≤ 4096) :
    match rdF (mB S) N 201 1 1 0 0 with
    | .error (e, pl) => ∃ S', zR 276 4 [(34, 34)] S S' (9, 0) ∧ S' 34 48 = e ∧ S' 34 31 = pl ∧ 0 < e ∧ mL S S' 0 0
    | .ok (r, p', k') => ∃ S', zR 276 4 [(34, 34)] S S' (9, 0) ∧ S' 34 48 = 0 ∧ S' 34 31 = -1 ∧ S' 34 47 = p' ∧ S' 34 38 = k' ∧ mseg S' 1 0 0 r ∧ (∀ i, 0 ≤ i → i < fsize r → S' 137 i = (fat r i).2.2.2) ∧ (∀ f, f ≠ 47 → f ≠ 48 → f ≠ 31 → f ≠ 49 → f ≠ 38 → S' 34 f = S 34 f) ∧ ∀ b, b ≠ 34 → b ≠ 134 → b ≠ 135 → b ≠ 136 → b ≠ 138 → b ≠ 139 → b ≠ 140 → b ≠ 141 → b ≠ 137 → S' b = S b := by
  obtain ⟨S0, hS0⟩ : ∃ S0, S0 = up (up (up (up (up S 34 38 0) 34 47 0) 34 48 0) 34 31 (-1)) 141 1 1 := ⟨_, rfl⟩
  have st : ∀ Q : ZQ, zCall Cd 276 4 [(34, 34)] S Q = zG Cd 276 (Cd 276 29) [(34, 34), (0, 1), (9, 0), (9, 0)] [] S0 Q := by
    intro Q
    rw [hS0]
    simp (disch := omega) only [bcd, true_and, and_true, and_self, if_true, if_false, ite_true, ite_false, reduceIte, Int.reduceEq, Int.reduceNe, Int.reduceLT, Int.reduceLE, Int.reduceAdd, Int.reduceSub, Int.reduceMul, Int.reduceNeg, Int.reduceMod, Int.reduceDiv, Int.reduceToNat, Nat.reduceAdd, Nat.reduceLeDiff, List.length_cons, List.length_nil, not_false_eq_true, not_true_eq_false, ne_eq, or_false, false_or, or_self, false_and, and_false, or_true, true_or, ite_self, Int.add_sub_cancel, Int.sub_add_cancel, b_lc1, b_lc2, b_lc3, b_lc4, b_lc5, up_eq, up_ei, up_n1, up_n2, W32i, W8i, W16i, W64i, if_ps, if_ng, and_tr, fil_n1, fil_in, fil_out, le_tt, le_ff, lt_tt, lt_ff, eq_tt, eq_ff, M276]
  have e1 : S0 34 48 = 0 := by rw [hS0]; simp (disch := omega) only [true_and, and_true, and_self, if_true, if_false, ite_true, ite_false, reduceIte, Int.reduceEq, Int.reduceNe, Int.reduceLT, Int.reduceLE, Int.reduceAdd, Int.reduceSub, Int.reduceMul, Int.reduceNeg, Int.reduceMod, Int.reduceDiv, Int.reduceToNat, Nat.reduceAdd, Nat.reduceLeDiff, List.length_cons, List.length_nil, not_false_eq_true, not_true_eq_false, ne_eq, or_false, false_or, or_self, false_and, and_false, or_true, true_or, ite_self, Int.add_sub_cancel, Int.sub_add_cancel, b_lc1, b_lc2, b_lc3, b_lc4, b_lc5, up_eq, up_ei, up_n1, up_n2, W32i, W8i, W16i, W64i, if_ps, if_ng, and_tr, fil_n1, fil_in, fil_out]
  have e2 : S0 34 47 = 0 := by rw [hS0]; simp (disch := omega) only [true_and, and_true, and_self, if_true, if_false, ite_true, ite_false, reduceIte, Int.reduceEq, Int.reduceNe, Int.reduceLT, Int.reduceLE, Int.reduceAdd, Int.reduceSub, Int.reduceMul, Int.reduceNeg, Int.reduceMod, Int.reduceDiv, Int.reduceToNat, Nat.reduceAdd, Nat.reduceLeDiff, List.length_cons, List.length_nil, not_false_eq_true, not_true_eq_false, ne_eq, or_false, false_or, or_self, false_and, and_false, or_true, true_or, ite_self, Int.add_sub_cancel, Int.sub_add_cancel, b_lc1, b_lc2, b_lc3, b_lc4, b_lc5, up_eq, up_ei, up_n1, up_n2, W32i, W8i, W16i, W64i, if_ps, if_ng, and_tr, fil_n1, fil_in, fil_out]
  have e3 : S0 34 38 = 0 := by rw [hS0]; simp (disch := omega) only [true_and, and_true, and_self, if_true, if_false, ite_true, ite_false, reduceIte, Int.reduceEq, Int.reduceNe, Int.reduceLT, Int.reduceLE, Int.reduceAdd, Int.reduceSub, Int.reduceMul, Int.reduceNeg, Int.reduceMod, Int.reduceDiv, Int.reduceToNat, Nat.reduceAdd, Nat.reduceLeDiff, List.length_cons, List.length_nil, not_false_eq_true, not_true_eq_false, ne_eq, or_false, false_or, or_self, false_and, and_false, or_true, true_or, ite_self, Int.add_sub_cancel, Int.sub_add_cancel, b_lc1, b_lc2, b_lc3, b_lc4, b_lc5, up_eq, up_ei, up_n1, up_n2, W32i, W8i, W16i, W64i, if_ps, if_ng, and_tr, fil_n1, fil_in, fil_out]
  have e4 : S0 34 2 = N := by rw [hS0]; simp (disch := omega) only [true_and, and_true, and_self, if_true, if_false, ite_true, ite_false, reduceIte, Int.reduceEq, Int.reduceNe, Int.reduceLT, Int.reduceLE, Int.reduceAdd, Int.reduceSub, Int.reduceMul, Int.reduceNeg, Int.reduceMod, Int.reduceDiv, Int.reduceToNat, Nat.reduceAdd, Nat.reduceLeDiff, List.length_cons, List.length_nil, not_false_eq_true, not_true_eq_false, ne_eq, or_false, false_or, or_self, false_and, and_false, or_true, true_or, ite_self, Int.add_sub_cancel, Int.sub_add_cancel, b_lc1, b_lc2, b_lc3, b_lc4, b_lc5, up_eq, up_ei, up_n1, up_n2, W32i, W8i, W16i, W64i, if_ps, if_ng, and_tr, fil_n1, fil_in, fil_out, hs]
  have e5 : mB S0 = mB S := by rw [hS0]; unfold mB; simp (disch := omega) only [true_and, and_true, and_self, if_true, if_false, ite_true, ite_false, reduceIte, Int.reduceEq, Int.reduceNe, Int.reduceLT, Int.reduceLE, Int.reduceAdd, Int.reduceSub, Int.reduceMul, Int.reduceNeg, Int.reduceMod, Int.reduceDiv, Int.reduceToNat, Nat.reduceAdd, Nat.reduceLeDiff, List.length_cons, List.length_nil, not_false_eq_true, not_true_eq_false, ne_eq, or_false, false_or, or_self, false_and, and_false, or_true, true_or, ite_self, Int.add_sub_cancel, Int.sub_add_cancel, b_lc1, b_lc2, b_lc3, b_lc4, b_lc5, up_eq, up_ei, up_n1, up_n2, W32i, W8i, W16i, W64i, if_ps, if_ng, and_tr, fil_n1, fil_in, fil_out, up_fn]
  have e6 : S0 34 31 = -1 := by rw [hS0]; simp (disch := omega) only [true_and, and_true, and_self, if_true, if_false, ite_true, ite_false, reduceIte, Int.reduceEq, Int.reduceNe, Int.reduceLT, Int.reduceLE, Int.reduceAdd, Int.reduceSub, Int.reduceMul, Int.reduceNeg, Int.reduceMod, Int.reduceDiv, Int.reduceToNat, Nat.reduceAdd, Nat.reduceLeDiff, List.length_cons, List.length_nil, not_false_eq_true, not_true_eq_false, ne_eq, or_false, false_or, or_self, false_and, and_false, or_true, true_or, ite_self, Int.add_sub_cancel, Int.sub_add_cancel, b_lc1, b_lc2, b_lc3, b_lc4, b_lc5, up_eq, up_ei, up_n1, up_n2, W32i, W8i, W16i, W64i, if_ps, if_ng, and_tr, fil_n1, fil_in, fil_out]
  have hB := mB_by S N
  have L := m_loop h4 201 1 1 0 0 S0 (9, 0) (9, 0) e1 e2 e3 e4 (by omega) h0 (by omega) (by omega) (by omega) (by omega) (by rw [hS0]; simp (disch := omega) only [true_and, and_true, and_self, if_true, if_false, ite_true, ite_false, reduceIte, Int.reduceEq, Int.reduceNe, Int.reduceLT, Int.reduceLE, Int.reduceAdd, Int.reduceSub, Int.reduceMul, Int.reduceNeg, Int.reduceMod, Int.reduceDiv, Int.reduceToNat, Nat.reduceAdd, Nat.reduceLeDiff, List.length_cons, List.length_nil, not_false_eq_true, not_true_eq_false, ne_eq, or_false, false_or, or_self, false_and, and_false, or_true, true_or, ite_self, Int.add_sub_cancel, Int.sub_add_cancel, b_lc1, b_lc2, b_lc3, b_lc4, b_lc5, up_eq, up_ei, up_n1, up_n2, W32i, W8i, W16i, W64i, if_ps, if_ng, and_tr, fil_n1, fil_in, fil_out]) (by omega) (by omega) (by omega)
  rw [e5] at L
  have l0 : mL S S0 0 0 := by
    rw [hS0]
    apply mL.mk1
    · intro f f1 f2 f3 f4 f5; simp (disch := omega) only [true_and, and_true, and_self, if_true, if_false, ite_true, ite_false, reduceIte, Int.reduceEq, Int.reduceNe, Int.reduceLT, Int.reduceLE, Int.reduceAdd, Int.reduceSub, Int.reduceMul, Int.reduceNeg, Int.reduceMod, Int.reduceDiv, Int.reduceToNat, Nat.reduceAdd, Nat.reduceLeDiff, List.length_cons, List.length_nil, not_false_eq_true, not_true_eq_false, ne_eq, or_false, false_or, or_self, false_and, and_false, or_true, true_or, ite_self, Int.add_sub_cancel, Int.sub_add_cancel, b_lc1, b_lc2, b_lc3, b_lc4, b_lc5, up_eq, up_ei, up_n1, up_n2, W32i, W8i, W16i, W64i, if_ps, if_ng, and_tr, fil_n1, fil_in, fil_out]
    · intro b b1 b2 b3 b4 b5 b6 b7 b8; simp (disch := omega) only [true_and, and_true, and_self, if_true, if_false, ite_true, ite_false, reduceIte, Int.reduceEq, Int.reduceNe, Int.reduceLT, Int.reduceLE, Int.reduceAdd, Int.reduceSub, Int.reduceMul, Int.reduceNeg, Int.reduceMod, Int.reduceDiv, Int.reduceToNat, Nat.reduceAdd, Nat.reduceLeDiff, List.length_cons, List.length_nil, not_false_eq_true, not_true_eq_false, ne_eq, or_false, false_or, or_self, false_and, and_false, or_true, true_or, ite_self, Int.add_sub_cancel, Int.sub_add_cancel, b_lc1, b_lc2, b_lc3, b_lc4, b_lc5, up_eq, up_ei, up_n1, up_n2, W32i, W8i, W16i, W64i, if_ps, if_ng, and_tr, fil_n1, fil_in, fil_out, up_fn]
    · intro i _ _; omega
    · intro i _; simp (disch := omega) only [true_and, and_true, and_self, if_true, if_false, ite_true, ite_false, reduceIte, Int.reduceEq, Int.reduceNe, Int.reduceLT, Int.reduceLE, Int.reduceAdd, Int.reduceSub, Int.reduceMul, Int.reduceNeg, Int.reduceMod, Int.reduceDiv, Int.reduceToNat, Nat.reduceAdd, Nat.reduceLeDiff, List.length_cons, List.length_nil, not_false_eq_true, not_true_eq_false, ne_eq, or_false, false_or, or_self, false_and, and_false, or_true, true_or, ite_self, Int.add_sub_cancel, Int.sub_add_cancel, b_lc1, b_lc2, b_lc3, b_lc4, b_lc5, up_eq, up_ei, up_n1, up_n2, W32i, W8i, W16i, W64i, if_ps, if_ng, and_tr, fil_n1, fil_in, fil_out]
  cases hr : rdF (mB S) N 201 1 1 0 0 with
  | error ep =>
    obtain ⟨e, pl⟩ := ep
    rw [hr] at L
    obtain ⟨S', lv', x', y', a1, a2, a3, a4, a5⟩ := L
    refine ⟨S', fun Q => ?_, a2, a3, a4, l0.tr a5 (by omega) (by omega)⟩
    rw [st, a1]
    by_cases q : S' 34 38 ≤ 0 <;> simp (disch := omega) only [bcd, true_and, and_true, and_self, if_true, if_false, ite_true, ite_false, reduceIte, Int.reduceEq, Int.reduceNe, Int.reduceLT, Int.reduceLE, Int.reduceAdd, Int.reduceSub, Int.reduceMul, Int.reduceNeg, Int.reduceMod, Int.reduceDiv, Int.reduceToNat, Nat.reduceAdd, Nat.reduceLeDiff, List.length_cons, List.length_nil, not_false_eq_true, not_true_eq_false, ne_eq, or_false, false_or, or_self, false_and, and_false, or_true, true_or, ite_self, Int.add_sub_cancel, Int.sub_add_cancel, b_lc1, b_lc2, b_lc3, b_lc4, b_lc5, up_eq, up_ei, up_n1, up_n2, W32i, W8i, W16i, W64i, if_ps, if_ng, and_tr, fil_n1, fil_in, fil_out, le_tt, le_ff, lt_tt, lt_ff, eq_tt, eq_ff, M276, L276_94]
  | ok rpk =>
    obtain ⟨r, p', k'⟩ := rpk
    rw [hr] at L
    obtain ⟨S1, x', y', a1, a2, a3, a4, a5, a6, a7, a8⟩ := L
    obtain ⟨q1, q2, q3, q4, q5, q6, q7⟩ := rdF_ok hB _ _ _ _ _ _ _ _ (by omega) h0 (by omega) (by omega) (by omega) hr
    have s0 := fsize0 r
    have wh := mseg_wh (nn := k') r 1 0 0 a7 (by omega) (by omega)
    have z := m_wh2 (nn := k') 0 (fun i => (fat r i).2.2.2) q3 k'.toNat S1 0 y' a4 a2 (by omega) (by omega) (by
      intro i x y
      obtain ⟨w1, w2, w3, w4⟩ := wh i x (by omega)
      refine ⟨w1, by omega, fun j u v => ?_, ?_⟩
      · have := w3 j u v; simpa using this
      · simpa using w4)
    refine ⟨fil S1 137 0 k' (fun i => (fat r i).2.2.2), fun Q => ?_, ?_, ?_, ?_, ?_, ?_, ?_, ?_, ?_⟩
    · rw [st, a1, m_pop _ _ a2 (by omega) (by omega) a5, show (1 : Int) + -1 = 0 by rfl, m_out0]
      have := z Q
      simp (disch := omega) only [bcd, true_and, and_true, and_self, if_true, if_false, ite_true, ite_false, reduceIte, Int.reduceEq, Int.reduceNe, Int.reduceLT, Int.reduceLE, Int.reduceAdd, Int.reduceSub, Int.reduceMul, Int.reduceNeg, Int.reduceMod, Int.reduceDiv, Int.reduceToNat, Nat.reduceAdd, Nat.reduceLeDiff, List.length_cons, List.length_nil, not_false_eq_true, not_true_eq_false, ne_eq, or_false, false_or, or_self, false_and, and_false, or_true, true_or, ite_self, Int.add_sub_cancel, Int.sub_add_cancel, b_lc1, b_lc2, b_lc3, b_lc4, b_lc5, up_eq, up_ei, up_n1, up_n2, W32i, W8i, W16i, W64i, if_ps, if_ng, and_tr, fil_n1, fil_in, fil_out, le_tt, le_ff, lt_tt, lt_ff, eq_tt, eq_ff, M276]
      exact this
    · simp (disch := omega) only [true_and, and_true, and_self, if_true, if_false, ite_true, ite_false, reduceIte, Int.reduceEq, Int.reduceNe, Int.reduceLT, Int.reduceLE, Int.reduceAdd, Int.reduceSub, Int.reduceMul, Int.reduceNeg, Int.reduceMod, Int.reduceDiv, Int.reduceToNat, Nat.reduceAdd, Nat.reduceLeDiff, List.length_cons, List.length_nil, not_false_eq_true, not_true_eq_false, ne_eq, or_false, false_or, or_self, false_and, and_false, or_true, true_or, ite_self, Int.add_sub_cancel, Int.sub_add_cancel, b_lc1, b_lc2, b_lc3, b_lc4, b_lc5, up_eq, up_ei, up_n1, up_n2, W32i, W8i, W16i, W64i, if_ps, if_ng, and_tr, fil_n1, fil_in, fil_out, a2]
    · simp (disch := omega) only [true_and, and_true, and_self, if_true, if_false, ite_true, ite_false, reduceIte, Int.reduceEq, Int.reduceNe, Int.reduceLT, Int.reduceLE, Int.reduceAdd, Int.reduceSub, Int.reduceMul, Int.reduceNeg, Int.reduceMod, Int.reduceDiv, Int.reduceToNat, Nat.reduceAdd, Nat.reduceLeDiff, List.length_cons, List.length_nil, not_false_eq_true, not_true_eq_false, ne_eq, or_false, false_or, or_self, false_and, and_false, or_true, true_or, ite_self, Int.add_sub_cancel, Int.sub_add_cancel, b_lc1, b_lc2, b_lc3, b_lc4, b_lc5, up_eq, up_ei, up_n1, up_n2, W32i, W8i, W16i, W64i, if_ps, if_ng, and_tr, fil_n1, fil_in, fil_out]; rw [a8, e6]
    · simp (disch := omega) only [true_and, and_true, and_self, if_true, if_false, ite_true, ite_false, reduceIte, Int.reduceEq, Int.reduceNe, Int.reduceLT, Int.reduceLE, Int.reduceAdd, Int.reduceSub, Int.reduceMul, Int.reduceNeg, Int.reduceMod, Int.reduceDiv, Int.reduceToNat, Nat.reduceAdd, Nat.reduceLeDiff, List.length_cons, List.length_nil, not_false_eq_true, not_true_eq_false, ne_eq, or_false, false_or, or_self, false_and, and_false, or_true, true_or, ite_self, Int.add_sub_cancel, Int.sub_add_cancel, b_lc1, b_lc2, b_lc3, b_lc4, b_lc5, up_eq, up_ei, up_n1, up_n2, W32i, W8i, W16i, W64i, if_ps, if_ng, and_tr, fil_n1, fil_in, fil_out, a3]
    · simp (disch := omega) only [true_and, and_true, and_self, if_true, if_false, ite_true, ite_false, reduceIte, Int.reduceEq, Int.reduceNe, Int.reduceLT, Int.reduceLE, Int.reduceAdd, Int.reduceSub, Int.reduceMul, Int.reduceNeg, Int.reduceMod, Int.reduceDiv, Int.reduceToNat, Nat.reduceAdd, Nat.reduceLeDiff, List.length_cons, List.length_nil, not_false_eq_true, not_true_eq_false, ne_eq, or_false, false_or, or_self, false_and, and_false, or_true, true_or, ite_self, Int.add_sub_cancel, Int.sub_add_cancel, b_lc1, b_lc2, b_lc3, b_lc4, b_lc5, up_eq, up_ei, up_n1, up_n2, W32i, W8i, W16i, W64i, if_ps, if_ng, and_tr, fil_n1, fil_in, fil_out, a4]
    · apply mseg_cg r 1 0 0 _ a7
      intro i x y; simp (disch := omega) only [true_and, and_true, and_self, if_true, if_false, ite_true, ite_false, reduceIte, Int.reduceEq, Int.reduceNe, Int.reduceLT, Int.reduceLE, Int.reduceAdd, Int.reduceSub, Int.reduceMul, Int.reduceNeg, Int.reduceMod, Int.reduceDiv, Int.reduceToNat, Nat.reduceAdd, Nat.reduceLeDiff, List.length_cons, List.length_nil, not_false_eq_true, not_true_eq_false, ne_eq, or_false, false_or, or_self, false_and, and_false, or_true, true_or, ite_self, Int.add_sub_cancel, Int.sub_add_cancel, b_lc1, b_lc2, b_lc3, b_lc4, b_lc5, up_eq, up_ei, up_n1, up_n2, W32i, W8i, W16i, W64i, if_ps, if_ng, and_tr, fil_n1, fil_in, fil_out]
    · intro i x y; simp (disch := omega) only [true_and, and_true, and_self, if_true, if_false, ite_true, ite_false, reduceIte, Int.reduceEq, Int.reduceNe, Int.reduceLT, Int.reduceLE, Int.reduceAdd, Int.reduceSub, Int.reduceMul, Int.reduceNeg, Int.reduceMod, Int.reduceDiv, Int.reduceToNat, Nat.reduceAdd, Nat.reduceLeDiff, List.length_cons, List.length_nil, not_false_eq_true, not_true_eq_false, ne_eq, or_false, false_or, or_self, false_and, and_false, or_true, true_or, ite_self, Int.add_sub_cancel, Int.sub_add_cancel, b_lc1, b_lc2, b_lc3, b_lc4, b_lc5, up_eq, up_ei, up_n1, up_n2, W32i, W8i, W16i, W64i, if_ps, if_ng, and_tr, fil_n1, fil_in, fil_out]
    · intro f f1 f2 f3 f4 f5; simp (disch := omega) only [true_and, and_true, and_self, if_true, if_false, ite_true, ite_false, reduceIte, Int.reduceEq, Int.reduceNe, Int.reduceLT, Int.reduceLE, Int.reduceAdd, Int.reduceSub, Int.reduceMul, Int.reduceNeg, Int.reduceMod, Int.reduceDiv, Int.reduceToNat, Nat.reduceAdd, Nat.reduceLeDiff, List.length_cons, List.length_nil, not_false_eq_true, not_true_eq_false, ne_eq, or_false, false_or, or_self, false_and, and_false, or_true, true_or, ite_self, Int.add_sub_cancel, Int.sub_add_cancel, b_lc1, b_lc2, b_lc3, b_lc4, b_lc5, up_eq, up_ei, up_n1, up_n2, W32i, W8i, W16i, W64i, if_ps, if_ng, and_tr, fil_n1, fil_in, fil_out]; rw [a6.ff f f1 f2 f3 f4 f5, l0.ff f f1 f2 f3 f4 f5]
    · intro b b1 b2 b3 b4 b5 b6 b7 b8 b9; simp (disch := omega) only [true_and, and_true, and_self, if_true, if_false, ite_true, ite_false, reduceIte, Int.reduceEq, Int.reduceNe, Int.reduceLT, Int.reduceLE, Int.reduceAdd, Int.reduceSub, Int.reduceMul, Int.reduceNeg, Int.reduceMod, Int.reduceDiv, Int.reduceToNat, Nat.reduceAdd, Nat.reduceLeDiff, List.length_cons, List.length_nil, not_false_eq_true, not_true_eq_false, ne_eq, or_false, false_or, or_self, false_and, and_false, or_true, true_or, ite_self, Int.add_sub_cancel, Int.sub_add_cancel, b_lc1, b_lc2, b_lc3, b_lc4, b_lc5, up_eq, up_ei, up_n1, up_n2, W32i, W8i, W16i, W64i, if_ps, if_ng, and_tr, fil_n1, fil_in, fil_out, fil_fn]; rw [a6.fr b b1 b2 b3 b4 b5 b6 b7 b8, l0.fr b b1 b2 b3 b4 b5 b6 b7 b8]
