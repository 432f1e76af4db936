-- uses: 69b
theorem pCos_m {f : F} {l m sc : Int} {i : Nat} (hm : m = 0 ∨ m = 1) : pCos f l m sc i = true ↔ pA3 f (wi f l i) m sc ∧ ((0 < nt f (wi f l i + 1) ∨ nt f (wi f l i + 2) = 0) ∧ nt f (wi f l i + 3) ≠ 0) ∧ ((i : Int) = 0 ∨ (lpo f l i < nt f (wi f l i + 1) ∨ lpo f l i = nt f (wi f l i + 1) ∧ zuns (lna f l i) < zuns (nt f (wi f l i + 2)))) := by
  unfold pCos
  rw [decide_eq_true_iff]
  unfold pA pA3 pB
  have z : (i : Int) = 0 → lpo f l i = -1 := by intro q; have : i = 0 := by omega
                                                subst this; rfl
  constructor
  · rintro ⟨⟨a1, a2, a3, a4⟩, b1, b2, b3, b4, b5⟩
    refine ⟨⟨a1, a2, a3, a4, ?_, b4⟩, ⟨b1, ?_⟩, ?_⟩
    · rcases hm with rfl | rfl
      · have := b3 rfl; simpa using this
      · have := (b2 rfl).2; simpa using this
    · rcases hm with rfl | rfl
      · have := b3 rfl; omega
      · exact (b2 rfl).1
    · right; omega
  · rintro ⟨⟨a1, a2, a3, a4, a5, a6⟩, ⟨b1, b2⟩, b3⟩
    refine ⟨⟨a1, a2, a3, a4⟩, b1, ?_, ?_, a6, ?_⟩
    · intro q; subst q; simp at a5; exact ⟨b2, a5⟩
    · intro q; subst q; simpa using a5
    · by_cases q : (i : Int) = 0
      · left
        rw [z q]
        have p0 := a2.2.1
        rcases hm with rfl | rfl
        · simp at p0; omega
        · simp at p0; omega
      · omega
theorem m_isCoins {S : Sto} {f : F} (h : MD S f) {l m sc : Int} (l0 : 0 ≤ l) (l1 : l < fsize f) (hs : S 34 3 = sc) (hm : m = 0 ∨ m = 1) (Q : ZQ) : zCall Cd 290 6 [(34, 34), (0, l), (0, m)] S Q = Q S (0, if cL f l (if m = 1 then 0 else 1) 8 then zb1 (zall (pCos f l m sc) (nc f l).toNat 0) else 0) := by
  have sz := h.sz
  have il := fun Q => m_isList h l (if m = 1 then 0 else 1) 8 l0 l1 Q
  by_cases c1 : cL f l (if m = 1 then 0 else 1) 8
  · rw [if_pos c1]
    simp only [if_pos c1] at il
    have h2 := c1.1
    have cb := nc_b h.v sz l0 l1 h2
    have mn := h.ct l l0 l1
    have ex0 : ∀ (k : Int) (n : AV), zG Cd 290 (Cd 290 26) [(34, 34), (0, l), (0, m), (0, 0), (0, k), n] [] S Q = Q S (0, 0) := by
      intro k n
      rw [L290_26]
      by_cases q : nc f l ≤ k <;> simp (disch := omega) only [bcd, true_and, and_true, and_self, if_true, if_false, ite_true, ite_false, reduceIte, Int.reduceEq, Int.reduceNe, Int.reduceLT, Int.reduceLE, Int.reduceAdd, Int.reduceSub, Int.reduceMul, Int.reduceNeg, Int.reduceMod, Int.reduceDiv, Int.reduceToNat, Nat.reduceAdd, Nat.reduceLeDiff, List.length_cons, List.length_nil, not_false_eq_true, not_true_eq_false, ne_eq, or_false, false_or, or_self, false_and, and_false, or_true, true_or, ite_self, Int.add_sub_cancel, Int.sub_add_cancel, b_lc1, b_lc2, b_lc3, b_lc4, b_lc5, up_eq, up_ei, up_n1, up_n2, W32i, W8i, W16i, W64i, if_ps, if_ng, and_tr, fil_n1, fil_in, fil_out, le_tt, le_ff, lt_tt, lt_ff, eq_tt, eq_ff, M290, mn]
    have lp : ∀ (c i : Nat) (n : AV), (i : Int) + c = nc f l → (0 < i → ns f (wi f l (i - 1)) = 4) → zG Cd 290 (Cd 290 26) [(34, 34), (0, l), (0, m), (0, 1), (0, (i : Int)), n] [] S Q = Q S (0, zb1 (zall (pCos f l m sc) c i)) := by
      intro c
      induction c with
      | zero =>
        intro i n hi _
        rw [L290_26, zall, zb1_t]
        simp (disch := omega) only [bcd, true_and, and_true, and_self, if_true, if_false, ite_true, ite_false, reduceIte, Int.reduceEq, Int.reduceNe, Int.reduceLT, Int.reduceLE, Int.reduceAdd, Int.reduceSub, Int.reduceMul, Int.reduceNeg, Int.reduceMod, Int.reduceDiv, Int.reduceToNat, Nat.reduceAdd, Nat.reduceLeDiff, List.length_cons, List.length_nil, not_false_eq_true, not_true_eq_false, ne_eq, or_false, false_or, or_self, false_and, and_false, or_true, true_or, ite_self, Int.add_sub_cancel, Int.sub_add_cancel, b_lc1, b_lc2, b_lc3, b_lc4, b_lc5, up_eq, up_ei, up_n1, up_n2, W32i, W8i, W16i, W64i, if_ps, if_ng, and_tr, fil_n1, fil_in, fil_out, le_tt, le_ff, lt_tt, lt_ff, eq_tt, eq_ff, M290, mn]
      | succ c ih =>
        intro i n hi hp
        obtain ⟨a1, a2, a3⟩ := wi_l h.v l0 l1 h2 i (by omega)
        have A := m_coA h (n := n) i l0 l1 h2 (by omega) hs hm Q
        have P := pCos_m (f := f) (l := l) (sc := sc) (i := i) hm
        rw [A, zall]
        by_cases a : pA3 f (wi f l i) m sc
        · have nk := nk_in h.v (by omega) a2 (Or.inr a.1.1) (show nc f (wi f l i) = 3 by have := a.1.2; omega)
          have B := m_coB (S := S) (l := l) (m := m) (g0 := 1) (k := (i : Int)) (c := wi f l i) (lp := lpo f l i) (ln := lna f l i) (h.tg (wi f l i + 1) (by omega) (by omega)) (h.tg (wi f l i + 2) (by omega) (by omega)) (h.tg (wi f l i + 3) (by omega) (by omega)) (by
            intro q
            obtain ⟨j, rfl⟩ : ∃ j, i = j + 1 := ⟨i - 1, by omega⟩
            obtain ⟨b1, b2, b3⟩ := wi_l h.v l0 l1 h2 j (by omega)
            have e := hp (by omega)
            simp only [Nat.add_sub_cancel] at e
            have ew : wi f l (j + 1) = wi f l j + 4 := by rw [wi, e]
            rw [ew] at a2 ⊢
            rw [show wi f l j + 4 - 3 = wi f l j + 1 by omega, show wi f l j + 4 - 2 = wi f l j + 2 by omega]
            exact ⟨h.tg _ (by omega) (by omega), h.tg _ (by omega) (by omega), by omega⟩) (by omega) (by omega) (by omega) (by omega) Q
          rw [if_pos a, B]
          by_cases b : ((0 < nt f (wi f l i + 1) ∨ nt f (wi f l i + 2) = 0) ∧ nt f (wi f l i + 3) ≠ 0) ∧ ((i : Int) = 0 ∨ (lpo f l i < nt f (wi f l i + 1) ∨ lpo f l i = nt f (wi f l i + 1) ∧ zuns (lna f l i) < zuns (nt f (wi f l i + 2))))
          · have p : pCos f l m sc i = true := P.mpr ⟨a, b.1, b.2⟩
            have I := ih (i + 1) (0, wi f l i) (by omega) (fun _ => by simp only [Nat.add_sub_cancel]; exact pA_ns (m := m) (sc := sc) h.v (by omega) a2 ⟨a.1, a.2.1, a.2.2.1, a.2.2.2.1⟩)
            rw [show ((i + 1 : Nat) : Int) = (i : Int) + 1 by omega] at I
            rw [if_pos b, I, p, Bool.true_and]
          · have p : pCos f l m sc i = false := by
              cases hq : pCos f l m sc i with
              | false => rfl
              | true => exact absurd ⟨(P.mp hq).2.1, (P.mp hq).2.2⟩ b
            rw [if_neg b, ex0, p, Bool.false_and, zb1_f]
        · have p : pCos f l m sc i = false := by
            cases hq : pCos f l m sc i with
            | false => rfl
            | true => exact absurd (P.mp hq).1 a
          rw [if_neg a, m_coB0 (by omega) (by omega), ex0, p, Bool.false_and, zb1_f]
    have L := lp (nc f l).toNat 0 (9, 0) (by omega) (by omega)
    rw [show ((0 : Nat) : Int) = 0 by rfl] at L
    rw [← L]
    clear c1
    rcases hm with rfl | rfl
    · simp only [Int.reduceEq, if_false] at il
      iterate 14 (try (simp only [M290]; simp (disch := omega) only [bcd, true_and, and_true, and_self, if_true, if_false, ite_true, ite_false, reduceIte, Int.reduceEq, Int.reduceNe, Int.reduceLT, Int.reduceLE, Int.reduceAdd, Int.reduceSub, Int.reduceMul, Int.reduceNeg, Int.reduceMod, Int.reduceDiv, Int.reduceToNat, Nat.reduceAdd, Nat.reduceLeDiff, List.length_cons, List.length_nil, not_false_eq_true, not_true_eq_false, ne_eq, or_false, false_or, or_self, false_and, and_false, or_true, true_or, ite_self, Int.add_sub_cancel, Int.sub_add_cancel, b_lc1, b_lc2, b_lc3, b_lc4, b_lc5, up_eq, up_ei, up_n1, up_n2, W32i, W8i, W16i, W64i, if_ps, if_ng, and_tr, fil_n1, fil_in, fil_out, le_tt, le_ff, lt_tt, lt_ff, eq_tt, eq_ff, il]))
    · simp only [if_true] at il
      iterate 14 (try (simp only [M290]; simp (disch := omega) only [bcd, true_and, and_true, and_self, if_true, if_false, ite_true, ite_false, reduceIte, Int.reduceEq, Int.reduceNe, Int.reduceLT, Int.reduceLE, Int.reduceAdd, Int.reduceSub, Int.reduceMul, Int.reduceNeg, Int.reduceMod, Int.reduceDiv, Int.reduceToNat, Nat.reduceAdd, Nat.reduceLeDiff, List.length_cons, List.length_nil, not_false_eq_true, not_true_eq_false, ne_eq, or_false, false_or, or_self, false_and, and_false, or_true, true_or, ite_self, Int.add_sub_cancel, Int.sub_add_cancel, b_lc1, b_lc2, b_lc3, b_lc4, b_lc5, up_eq, up_ei, up_n1, up_n2, W32i, W8i, W16i, W64i, if_ps, if_ng, and_tr, fil_n1, fil_in, fil_out, le_tt, le_ff, lt_tt, lt_ff, eq_tt, eq_ff, il]))
  · rw [if_neg c1]
    simp only [if_neg c1] at il
    clear c1
    rcases hm with rfl | rfl
    · simp only [Int.reduceEq, if_false] at il
      iterate 14 (try (simp only [M290]; simp (disch := omega) only [bcd, true_and, and_true, and_self, if_true, if_false, ite_true, ite_false, reduceIte, Int.reduceEq, Int.reduceNe, Int.reduceLT, Int.reduceLE, Int.reduceAdd, Int.reduceSub, Int.reduceMul, Int.reduceNeg, Int.reduceMod, Int.reduceDiv, Int.reduceToNat, Nat.reduceAdd, Nat.reduceLeDiff, List.length_cons, List.length_nil, not_false_eq_true, not_true_eq_false, ne_eq, or_false, false_or, or_self, false_and, and_false, or_true, true_or, ite_self, Int.add_sub_cancel, Int.sub_add_cancel, b_lc1, b_lc2, b_lc3, b_lc4, b_lc5, up_eq, up_ei, up_n1, up_n2, W32i, W8i, W16i, W64i, if_ps, if_ng, and_tr, fil_n1, fil_in, fil_out, le_tt, le_ff, lt_tt, lt_ff, eq_tt, eq_ff, il]))
    · simp only [if_true] at il
      iterate 14 (try (simp only [M290]; simp (disch := omega) only [bcd, true_and, and_true, and_self, if_true, if_false, ite_true, ite_false, reduceIte, Int.reduceEq, Int.reduceNe, Int.reduceLT, Int.reduceLE, Int.reduceAdd, Int.reduceSub, Int.reduceMul, Int.reduceNeg, Int.reduceMod, Int.reduceDiv, Int.reduceToNat, Nat.reduceAdd, Nat.reduceLeDiff, List.length_cons, List.length_nil, not_false_eq_true, not_true_eq_false, ne_eq, or_false, false_or, or_self, false_and, and_false, or_true, true_or, ite_self, Int.add_sub_cancel, Int.sub_add_cancel, b_lc1, b_lc2, b_lc3, b_lc4, b_lc5, up_eq, up_ei, up_n1, up_n2, W32i, W8i, W16i, W64i, if_ps, if_ng, and_tr, fil_n1, fil_in, fil_out, le_tt, le_ff, lt_tt, lt_ff, eq_tt, eq_ff, il]))
