-- uses: 81 69
/-! M's sums by kinds -/
def MS (S : Sto) (n : Int) (gi go gm : Int → Int → Int) : Prop := (n ≤ 144) ∧ (S 34 55 = n) ∧ (KS n (S 145) (S 146)) ∧ (RP n (S 145) (S 146) (S 147) gi) ∧ (RP n (S 145) (S 146) (S 148) go) ∧ (RP n (S 145) (S 146) (S 149) gm)
theorem MS.mk1 {S : Sto} {n : Int} {gi go gm : Int → Int → Int} (n1 : n ≤ 144) (sz : S 34 55 = n) (ks : KS n (S 145) (S 146)) (ri : RP n (S 145) (S 146) (S 147) gi) (ro : RP n (S 145) (S 146) (S 148) go) (rm : RP n (S 145) (S 146) (S 149) gm) : MS S n gi go gm := by unfold MS; exact ⟨n1, sz, ks, ri, ro, rm⟩
theorem MS.n1 {S : Sto} {n : Int} {gi go gm : Int → Int → Int} (h : MS S n gi go gm) : n ≤ 144 := by unfold MS at h; exact h.1
theorem MS.sz {S : Sto} {n : Int} {gi go gm : Int → Int → Int} (h : MS S n gi go gm) : S 34 55 = n := by unfold MS at h; exact h.2.1
theorem MS.ks {S : Sto} {n : Int} {gi go gm : Int → Int → Int} (h : MS S n gi go gm) : KS n (S 145) (S 146) := by unfold MS at h; exact h.2.2.1
theorem MS.ri {S : Sto} {n : Int} {gi go gm : Int → Int → Int} (h : MS S n gi go gm) : RP n (S 145) (S 146) (S 147) gi := by unfold MS at h; exact h.2.2.2.1
theorem MS.ro {S : Sto} {n : Int} {gi go gm : Int → Int → Int} (h : MS S n gi go gm) : RP n (S 145) (S 146) (S 148) go := by unfold MS at h; exact h.2.2.2.2.1
theorem MS.rm {S : Sto} {n : Int} {gi go gm : Int → Int → Int} (h : MS S n gi go gm) : RP n (S 145) (S 146) (S 149) gm := by unfold MS at h; exact h.2.2.2.2.2
def sufr (S S' : Sto) : Prop := (∀ b, b ≠ 34 → (b < 145 ∨ 149 < b) → S' b = S b) ∧ ∀ f, f ≠ 55 → S' 34 f = S 34 f
theorem sufr.rf (S : Sto) : sufr S S := ⟨fun _ _ _ => rfl, fun _ _ => rfl⟩
theorem sufr.tr {S S' S'' : Sto} (h : sufr S S') (g : sufr S' S'') : sufr S S'' := ⟨fun b a c => (g.1 b a c).trans (h.1 b a c), fun f a => (g.2 f a).trans (h.2 f a)⟩
/-- the rows moved by one -/
def mmv (S : Sto) (k n : Int) : Sto := fun b i => if (145 ≤ b ∧ b ≤ 149) ∧ k < i ∧ i ≤ n then S b (i - 1) else S b i
theorem m_up {p m k n : Int} (n1 : n < 144) (k0 : 0 ≤ k) (Q : ZQ) : ∀ (c : Nat) (S : Sto) (j : Int), j = k + c → j ≤ n → zG Cd 298 (Cd 298 83) [(34, 34), (0, p), (1, m), (9, 0), (0, k), (0, j)] [] S Q = zG Cd 298 (Cd 298 83) [(34, 34), (0, p), (1, m), (9, 0), (0, k), (0, k)] [] (mmv S k j) Q := by
  intro c
  induction c with
  | zero =>
    intro S j hj jn
    rw [show j = k by omega]
    congr 1
    funext b i; unfold mmv; rw [if_neg (by omega)]
  | succ c ih =>
    intro S j hj jn
    have I := ih (up (up (up (up (up S 145 j (S 145 (j - 1))) 146 j (S 146 (j - 1))) 147 j (S 147 (j - 1))) 148 j (S 148 (j - 1))) 149 j (S 149 (j - 1))) (j - 1) (by omega) (by omega)
    have e : mmv (up (up (up (up (up S 145 j (S 145 (j - 1))) 146 j (S 146 (j - 1))) 147 j (S 147 (j - 1))) 148 j (S 148 (j - 1))) 149 j (S 149 (j - 1))) k (j - 1) = mmv S k j := by
      funext b i
      unfold mmv
      by_cases x : 145 ≤ b ∧ b ≤ 149
      · by_cases y : k < i ∧ i ≤ j - 1
        · rw [if_pos ⟨x, y⟩, if_pos ⟨x, y.1, by omega⟩]
          simp (disch := omega) only [true_and, and_true, and_self, if_true, if_false, ite_true, ite_false, reduceIte, Int.reduceEq, Int.reduceNe, Int.reduceLT, Int.reduceLE, Int.reduceAdd, Int.reduceSub, Int.reduceMul, Int.reduceNeg, Int.reduceMod, Int.reduceDiv, Int.reduceToNat, Nat.reduceAdd, Nat.reduceLeDiff, List.length_cons, List.length_nil, not_false_eq_true, not_true_eq_false, ne_eq, or_false, false_or, or_self, false_and, and_false, or_true, true_or, ite_self, Int.add_sub_cancel, Int.sub_add_cancel, b_lc1, b_lc2, b_lc3, b_lc4, b_lc5, up_eq, up_ei, up_n1, up_n2, W32i, W8i, W16i, W64i, if_ps, if_ng, and_tr, fil_n1, fil_in, fil_out]
        · rw [if_neg (fun z => y z.2)]
          by_cases z : i = j
          · rw [if_pos ⟨x, by omega, by omega⟩, z]
            have w : b = 145 ∨ b = 146 ∨ b = 147 ∨ b = 148 ∨ b = 149 := by omega
            rcases w with w | w | w | w | w <;> subst w <;> simp (disch := omega) only [true_and, and_true, and_self, if_true, if_false, ite_true, ite_false, reduceIte, Int.reduceEq, Int.reduceNe, Int.reduceLT, Int.reduceLE, Int.reduceAdd, Int.reduceSub, Int.reduceMul, Int.reduceNeg, Int.reduceMod, Int.reduceDiv, Int.reduceToNat, Nat.reduceAdd, Nat.reduceLeDiff, List.length_cons, List.length_nil, not_false_eq_true, not_true_eq_false, ne_eq, or_false, false_or, or_self, false_and, and_false, or_true, true_or, ite_self, Int.add_sub_cancel, Int.sub_add_cancel, b_lc1, b_lc2, b_lc3, b_lc4, b_lc5, up_eq, up_ei, up_n1, up_n2, W32i, W8i, W16i, W64i, if_ps, if_ng, and_tr, fil_n1, fil_in, fil_out]
          · rw [if_neg (by omega)]
            simp (disch := omega) only [true_and, and_true, and_self, if_true, if_false, ite_true, ite_false, reduceIte, Int.reduceEq, Int.reduceNe, Int.reduceLT, Int.reduceLE, Int.reduceAdd, Int.reduceSub, Int.reduceMul, Int.reduceNeg, Int.reduceMod, Int.reduceDiv, Int.reduceToNat, Nat.reduceAdd, Nat.reduceLeDiff, List.length_cons, List.length_nil, not_false_eq_true, not_true_eq_false, ne_eq, or_false, false_or, or_self, false_and, and_false, or_true, true_or, ite_self, Int.add_sub_cancel, Int.sub_add_cancel, b_lc1, b_lc2, b_lc3, b_lc4, b_lc5, up_eq, up_ei, up_n1, up_n2, W32i, W8i, W16i, W64i, if_ps, if_ng, and_tr, fil_n1, fil_in, fil_out]
      · rw [if_neg (fun z => x z.1), if_neg (fun z => x z.1)]
        simp (disch := omega) only [true_and, and_true, and_self, if_true, if_false, ite_true, ite_false, reduceIte, Int.reduceEq, Int.reduceNe, Int.reduceLT, Int.reduceLE, Int.reduceAdd, Int.reduceSub, Int.reduceMul, Int.reduceNeg, Int.reduceMod, Int.reduceDiv, Int.reduceToNat, Nat.reduceAdd, Nat.reduceLeDiff, List.length_cons, List.length_nil, not_false_eq_true, not_true_eq_false, ne_eq, or_false, false_or, or_self, false_and, and_false, or_true, true_or, ite_self, Int.add_sub_cancel, Int.sub_add_cancel, b_lc1, b_lc2, b_lc3, b_lc4, b_lc5, up_eq, up_ei, up_n1, up_n2, W32i, W8i, W16i, W64i, if_ps, if_ng, and_tr, fil_n1, fil_in, fil_out]
    rw [e] at I
    rw [← I]
    conv => lhs; rw [L298_83]
    simp (disch := omega) only [bcd, true_and, and_true, and_self, if_true, if_false, ite_true, ite_false, reduceIte, Int.reduceEq, Int.reduceNe, Int.reduceLT, Int.reduceLE, Int.reduceAdd, Int.reduceSub, Int.reduceMul, Int.reduceNeg, Int.reduceMod, Int.reduceDiv, Int.reduceToNat, Nat.reduceAdd, Nat.reduceLeDiff, List.length_cons, List.length_nil, not_false_eq_true, not_true_eq_false, ne_eq, or_false, false_or, or_self, false_and, and_false, or_true, true_or, ite_self, Int.add_sub_cancel, Int.sub_add_cancel, b_lc1, b_lc2, b_lc3, b_lc4, b_lc5, up_eq, up_ei, up_n1, up_n2, W32i, W8i, W16i, W64i, if_ps, if_ng, and_tr, fil_n1, fil_in, fil_out, le_tt, le_ff, lt_tt, lt_ff, eq_tt, eq_ff]
    rw [show j + -1 = j - 1 by omega]
theorem m_sumOf {S : Sto} {n : Int} {gi go gm : Int → Int → Int} (h : MS S n gi go gm) (p m : Int) (hp : 0 ≤ p ∧ p < 65536) (hm : zLong m) (n2 : n < 144) : ∃ S' n' k, zR 298 6 [(34, 34), (0, p), (1, m)] S S' (0, k) ∧ MS S' n' gi go gm ∧ n ≤ n' ∧ n' ≤ n + 1 ∧ 0 ≤ k ∧ k < n' ∧ S' 145 k = p ∧ S' 146 k = m ∧ sufr S S' ∧ (∀ i, 0 ≤ i → i < n' → (S' 145 i = p ∧ S' 146 i = m) ∨ ∃ j, 0 ≤ j ∧ j < n ∧ S 145 j = S' 145 i ∧ S 146 j = S' 146 i) := by
  have n0 := h.ks.n0
  have sz := h.sz
  have lp : ∀ (c : Nat) (j : Int), j + c = n → 0 ≤ j → (∀ i, 0 ≤ i → i < j → zltK (S 145 i) (S 146 i) p m) → ∃ k, (∀ Q : ZQ, zG Cd 298 (Cd 298 3) [(34, 34), (0, p), (1, m), (9, 0), (0, j), (9, 0)] [] S Q = zG Cd 298 (Cd 298 42) [(34, 34), (0, p), (1, m), (9, 0), (0, k), (9, 0)] [] S Q) ∧ KP n (S 145) (S 146) p m k := by
    intro c
    induction c with
    | zero =>
      intro j hj j0 lo
      refine ⟨j, fun Q => ?_, ?_⟩
      · obtain ⟨R, hR⟩ : ∃ R, zG Cd 298 (Cd 298 42) [(34, 34), (0, p), (1, m), (9, 0), (0, j), (9, 0)] [] S Q = R := ⟨_, rfl⟩
        rw [L298_3]
        simp (disch := omega) only [bcd, true_and, and_true, and_self, if_true, if_false, ite_true, ite_false, reduceIte, Int.reduceEq, Int.reduceNe, Int.reduceLT, Int.reduceLE, Int.reduceAdd, Int.reduceSub, Int.reduceMul, Int.reduceNeg, Int.reduceMod, Int.reduceDiv, Int.reduceToNat, Nat.reduceAdd, Nat.reduceLeDiff, List.length_cons, List.length_nil, not_false_eq_true, not_true_eq_false, ne_eq, or_false, false_or, or_self, false_and, and_false, or_true, true_or, ite_self, Int.add_sub_cancel, Int.sub_add_cancel, b_lc1, b_lc2, b_lc3, b_lc4, b_lc5, up_eq, up_ei, up_n1, up_n2, W32i, W8i, W16i, W64i, if_ps, if_ng, and_tr, fil_n1, fil_in, fil_out, le_tt, le_ff, lt_tt, lt_ff, eq_tt, eq_ff, sz, hR]
      · apply KP.mk1
        case k0 => exact j0
        case k1 => omega
        case lo => exact lo
        case hi => intros; omega
    | succ c ih =>
      intro j hj j0 lo
      have bf := fun Q => m_before S Q (S 145 j) (S 146 j) p m
      by_cases q : zltK (S 145 j) (S 146 j) p m
      · obtain ⟨k, r, K⟩ := ih (j + 1) (by omega) (by omega) (fun i a b => by
          by_cases z : i = j
          · rw [z]; exact q
          · exact lo i a (by omega))
        refine ⟨k, fun Q => ?_, K⟩
        rw [← r Q]
        unfold zltK at q
        simp only [if_pos q] at bf
        conv => lhs; rw [L298_3]
        simp (disch := omega) only [bcd, true_and, and_true, and_self, if_true, if_false, ite_true, ite_false, reduceIte, Int.reduceEq, Int.reduceNe, Int.reduceLT, Int.reduceLE, Int.reduceAdd, Int.reduceSub, Int.reduceMul, Int.reduceNeg, Int.reduceMod, Int.reduceDiv, Int.reduceToNat, Nat.reduceAdd, Nat.reduceLeDiff, List.length_cons, List.length_nil, not_false_eq_true, not_true_eq_false, ne_eq, or_false, false_or, or_self, false_and, and_false, or_true, true_or, ite_self, Int.add_sub_cancel, Int.sub_add_cancel, b_lc1, b_lc2, b_lc3, b_lc4, b_lc5, up_eq, up_ei, up_n1, up_n2, W32i, W8i, W16i, W64i, if_ps, if_ng, and_tr, fil_n1, fil_in, fil_out, le_tt, le_ff, lt_tt, lt_ff, eq_tt, eq_ff, sz, bf]
      · refine ⟨j, fun Q => ?_, ?_⟩
        · unfold zltK at q
          simp only [if_neg q] at bf
          obtain ⟨R, hR⟩ : ∃ R, zG Cd 298 (Cd 298 42) [(34, 34), (0, p), (1, m), (9, 0), (0, j), (9, 0)] [] S Q = R := ⟨_, rfl⟩
          rw [L298_3]
          simp (disch := omega) only [bcd, true_and, and_true, and_self, if_true, if_false, ite_true, ite_false, reduceIte, Int.reduceEq, Int.reduceNe, Int.reduceLT, Int.reduceLE, Int.reduceAdd, Int.reduceSub, Int.reduceMul, Int.reduceNeg, Int.reduceMod, Int.reduceDiv, Int.reduceToNat, Nat.reduceAdd, Nat.reduceLeDiff, List.length_cons, List.length_nil, not_false_eq_true, not_true_eq_false, ne_eq, or_false, false_or, or_self, false_and, and_false, or_true, true_or, ite_self, Int.add_sub_cancel, Int.sub_add_cancel, b_lc1, b_lc2, b_lc3, b_lc4, b_lc5, up_eq, up_ei, up_n1, up_n2, W32i, W8i, W16i, W64i, if_ps, if_ng, and_tr, fil_n1, fil_in, fil_out, le_tt, le_ff, lt_tt, lt_ff, eq_tt, eq_ff, sz, bf, hR]
        · apply KP.mk1
          case k0 => exact j0
          case k1 => omega
          case lo => exact lo
          case hi =>
            intro i a b z
            by_cases w : i = j
            · rw [w] at z; exact q z
            · exact q (zltK_tr (h.ks.inc j i j0 (by omega) b) z)
  obtain ⟨k, r, K⟩ := lp n.toNat 0 (by omega) (by omega) (fun i a b => by omega)
  have k0 := K.k0
  have k1 := K.k1
  have st : ∀ Q : ZQ, zCall Cd 298 6 [(34, 34), (0, p), (1, m)] S Q = zG Cd 298 (Cd 298 42) [(34, 34), (0, p), (1, m), (9, 0), (0, k), (9, 0)] [] S Q := by
    intro Q
    rw [← r Q]
    simp (disch := omega) only [bcd, true_and, and_true, and_self, if_true, if_false, ite_true, ite_false, reduceIte, Int.reduceEq, Int.reduceNe, Int.reduceLT, Int.reduceLE, Int.reduceAdd, Int.reduceSub, Int.reduceMul, Int.reduceNeg, Int.reduceMod, Int.reduceDiv, Int.reduceToNat, Nat.reduceAdd, Nat.reduceLeDiff, List.length_cons, List.length_nil, not_false_eq_true, not_true_eq_false, ne_eq, or_false, false_or, or_self, false_and, and_false, or_true, true_or, ite_self, Int.add_sub_cancel, Int.sub_add_cancel, b_lc1, b_lc2, b_lc3, b_lc4, b_lc5, up_eq, up_ei, up_n1, up_n2, W32i, W8i, W16i, W64i, if_ps, if_ng, and_tr, fil_n1, fil_in, fil_out, le_tt, le_ff, lt_tt, lt_ff, eq_tt, eq_ff, M298]
  by_cases q : k < n ∧ S 145 k = p ∧ S 146 k = m
  · obtain ⟨q1, q2, q3⟩ := q
    refine ⟨S, n, k, fun Q => ?_, h, by omega, by omega, k0, q1, q2, q3, sufr.rf S, fun i a b => Or.inr ⟨i, a, b, rfl, rfl⟩⟩
    rw [st]
    simp (disch := omega) only [bcd, true_and, and_true, and_self, if_true, if_false, ite_true, ite_false, reduceIte, Int.reduceEq, Int.reduceNe, Int.reduceLT, Int.reduceLE, Int.reduceAdd, Int.reduceSub, Int.reduceMul, Int.reduceNeg, Int.reduceMod, Int.reduceDiv, Int.reduceToNat, Nat.reduceAdd, Nat.reduceLeDiff, List.length_cons, List.length_nil, not_false_eq_true, not_true_eq_false, ne_eq, or_false, false_or, or_self, false_and, and_false, or_true, true_or, ite_self, Int.add_sub_cancel, Int.sub_add_cancel, b_lc1, b_lc2, b_lc3, b_lc4, b_lc5, up_eq, up_ei, up_n1, up_n2, W32i, W8i, W16i, W64i, if_ps, if_ng, and_tr, fil_n1, fil_in, fil_out, le_tt, le_ff, lt_tt, lt_ff, eq_tt, eq_ff, M298, sz, q2, q3]
  · have lu := fun Q => m_up (p := p) (m := m) (k := k) (n := n) n2 k0 Q (n - k).toNat S n (by omega) (by omega)
    obtain ⟨T, hT⟩ : ∃ T, mmv S k n = T := ⟨_, rfl⟩
    have szT : T 34 55 = n := by rw [← hT]; unfold mmv; rw [if_neg (by omega)]; exact sz
    rw [hT] at lu
    have s2 : ∀ Q : ZQ, zG Cd 298 (Cd 298 42) [(34, 34), (0, p), (1, m), (9, 0), (0, k), (9, 0)] [] S Q = zG Cd 298 (Cd 298 83) [(34, 34), (0, p), (1, m), (9, 0), (0, k), (0, n)] [] S Q := by
      intro Q
      by_cases a : k < n
      · by_cases b : S 145 k = p
        · have c : ¬ S 146 k = m := fun x => q ⟨a, b, x⟩
          simp (disch := omega) only [bcd, true_and, and_true, and_self, if_true, if_false, ite_true, ite_false, reduceIte, Int.reduceEq, Int.reduceNe, Int.reduceLT, Int.reduceLE, Int.reduceAdd, Int.reduceSub, Int.reduceMul, Int.reduceNeg, Int.reduceMod, Int.reduceDiv, Int.reduceToNat, Nat.reduceAdd, Nat.reduceLeDiff, List.length_cons, List.length_nil, not_false_eq_true, not_true_eq_false, ne_eq, or_false, false_or, or_self, false_and, and_false, or_true, true_or, ite_self, Int.add_sub_cancel, Int.sub_add_cancel, b_lc1, b_lc2, b_lc3, b_lc4, b_lc5, up_eq, up_ei, up_n1, up_n2, W32i, W8i, W16i, W64i, if_ps, if_ng, and_tr, fil_n1, fil_in, fil_out, le_tt, le_ff, lt_tt, lt_ff, eq_tt, eq_ff, M298, sz, b, c]
        · simp (disch := omega) only [bcd, true_and, and_true, and_self, if_true, if_false, ite_true, ite_false, reduceIte, Int.reduceEq, Int.reduceNe, Int.reduceLT, Int.reduceLE, Int.reduceAdd, Int.reduceSub, Int.reduceMul, Int.reduceNeg, Int.reduceMod, Int.reduceDiv, Int.reduceToNat, Nat.reduceAdd, Nat.reduceLeDiff, List.length_cons, List.length_nil, not_false_eq_true, not_true_eq_false, ne_eq, or_false, false_or, or_self, false_and, and_false, or_true, true_or, ite_self, Int.add_sub_cancel, Int.sub_add_cancel, b_lc1, b_lc2, b_lc3, b_lc4, b_lc5, up_eq, up_ei, up_n1, up_n2, W32i, W8i, W16i, W64i, if_ps, if_ng, and_tr, fil_n1, fil_in, fil_out, le_tt, le_ff, lt_tt, lt_ff, eq_tt, eq_ff, M298, sz, b]
      · simp (disch := omega) only [bcd, true_and, and_true, and_self, if_true, if_false, ite_true, ite_false, reduceIte, Int.reduceEq, Int.reduceNe, Int.reduceLT, Int.reduceLE, Int.reduceAdd, Int.reduceSub, Int.reduceMul, Int.reduceNeg, Int.reduceMod, Int.reduceDiv, Int.reduceToNat, Nat.reduceAdd, Nat.reduceLeDiff, List.length_cons, List.length_nil, not_false_eq_true, not_true_eq_false, ne_eq, or_false, false_or, or_self, false_and, and_false, or_true, true_or, ite_self, Int.add_sub_cancel, Int.sub_add_cancel, b_lc1, b_lc2, b_lc3, b_lc4, b_lc5, up_eq, up_ei, up_n1, up_n2, W32i, W8i, W16i, W64i, if_ps, if_ng, and_tr, fil_n1, fil_in, fil_out, le_tt, le_ff, lt_tt, lt_ff, eq_tt, eq_ff, M298, sz]
    have rd : ∀ b i v, 145 ≤ b → b ≤ 149 → 0 ≤ i → i < n + 1 → up T b k v b i = zins (S b) k v i := by
      intro b i v b1 b2 a1 a2
      unfold zins
      by_cases c : i < k
      · rw [if_pos c]; simp (disch := omega) only [true_and, and_true, and_self, if_true, if_false, ite_true, ite_false, reduceIte, Int.reduceEq, Int.reduceNe, Int.reduceLT, Int.reduceLE, Int.reduceAdd, Int.reduceSub, Int.reduceMul, Int.reduceNeg, Int.reduceMod, Int.reduceDiv, Int.reduceToNat, Nat.reduceAdd, Nat.reduceLeDiff, List.length_cons, List.length_nil, not_false_eq_true, not_true_eq_false, ne_eq, or_false, false_or, or_self, false_and, and_false, or_true, true_or, ite_self, Int.add_sub_cancel, Int.sub_add_cancel, b_lc1, b_lc2, b_lc3, b_lc4, b_lc5, up_eq, up_ei, up_n1, up_n2, W32i, W8i, W16i, W64i, if_ps, if_ng, and_tr, fil_n1, fil_in, fil_out]; rw [← hT]; unfold mmv; rw [if_neg (by omega)]
      · rw [if_neg c]
        by_cases d : i = k
        · rw [if_pos d, d]; simp (disch := omega) only [true_and, and_true, and_self, if_true, if_false, ite_true, ite_false, reduceIte, Int.reduceEq, Int.reduceNe, Int.reduceLT, Int.reduceLE, Int.reduceAdd, Int.reduceSub, Int.reduceMul, Int.reduceNeg, Int.reduceMod, Int.reduceDiv, Int.reduceToNat, Nat.reduceAdd, Nat.reduceLeDiff, List.length_cons, List.length_nil, not_false_eq_true, not_true_eq_false, ne_eq, or_false, false_or, or_self, false_and, and_false, or_true, true_or, ite_self, Int.add_sub_cancel, Int.sub_add_cancel, b_lc1, b_lc2, b_lc3, b_lc4, b_lc5, up_eq, up_ei, up_n1, up_n2, W32i, W8i, W16i, W64i, if_ps, if_ng, and_tr, fil_n1, fil_in, fil_out]
        · rw [if_neg d]; simp (disch := omega) only [true_and, and_true, and_self, if_true, if_false, ite_true, ite_false, reduceIte, Int.reduceEq, Int.reduceNe, Int.reduceLT, Int.reduceLE, Int.reduceAdd, Int.reduceSub, Int.reduceMul, Int.reduceNeg, Int.reduceMod, Int.reduceDiv, Int.reduceToNat, Nat.reduceAdd, Nat.reduceLeDiff, List.length_cons, List.length_nil, not_false_eq_true, not_true_eq_false, ne_eq, or_false, false_or, or_self, false_and, and_false, or_true, true_or, ite_self, Int.add_sub_cancel, Int.sub_add_cancel, b_lc1, b_lc2, b_lc3, b_lc4, b_lc5, up_eq, up_ei, up_n1, up_n2, W32i, W8i, W16i, W64i, if_ps, if_ng, and_tr, fil_n1, fil_in, fil_out]; rw [← hT]; unfold mmv; rw [if_pos ⟨⟨b1, b2⟩, by omega, by omega⟩]
    have r1 := fun i v => rd 145 i v (by omega) (by omega)
    have r2 := fun i v => rd 146 i v (by omega) (by omega)
    have r3 := fun i v => rd 147 i v (by omega) (by omega)
    have r4 := fun i v => rd 148 i v (by omega) (by omega)
    have r5 := fun i v => rd 149 i v (by omega) (by omega)
    have z0 : ∀ g : Int → Int → Int, g p m = 0 → gup g p m 0 = g := by
      intro g e
      funext p' m'; unfold gup; split
      · rename_i x; rw [x.1, x.2, e]
      · rfl
    have no := K.no h.ks hm q
    have eP : ∀ i, 0 ≤ i → i < n + 1 → up (up (up (up (up (up T 34 55 (n + 1)) 145 k p) 146 k m) 147 k 0) 148 k 0) 149 k 0 145 i = zins (S 145) k p i := by
      intro i a1 a2
      rw [← r1 i p a1 a2, up_n1 _ _ _ _ _ _ (by omega), up_n1 _ _ _ _ _ _ (by omega), up_n1 _ _ _ _ _ _ (by omega), up_n1 _ _ _ _ _ _ (by omega)]
      by_cases d : i = k
      · rw [d]; simp (disch := omega) only [true_and, and_true, and_self, if_true, if_false, ite_true, ite_false, reduceIte, Int.reduceEq, Int.reduceNe, Int.reduceLT, Int.reduceLE, Int.reduceAdd, Int.reduceSub, Int.reduceMul, Int.reduceNeg, Int.reduceMod, Int.reduceDiv, Int.reduceToNat, Nat.reduceAdd, Nat.reduceLeDiff, List.length_cons, List.length_nil, not_false_eq_true, not_true_eq_false, ne_eq, or_false, false_or, or_self, false_and, and_false, or_true, true_or, ite_self, Int.add_sub_cancel, Int.sub_add_cancel, b_lc1, b_lc2, b_lc3, b_lc4, b_lc5, up_eq, up_ei, up_n1, up_n2, W32i, W8i, W16i, W64i, if_ps, if_ng, and_tr, fil_n1, fil_in, fil_out]
      · simp (disch := omega) only [true_and, and_true, and_self, if_true, if_false, ite_true, ite_false, reduceIte, Int.reduceEq, Int.reduceNe, Int.reduceLT, Int.reduceLE, Int.reduceAdd, Int.reduceSub, Int.reduceMul, Int.reduceNeg, Int.reduceMod, Int.reduceDiv, Int.reduceToNat, Nat.reduceAdd, Nat.reduceLeDiff, List.length_cons, List.length_nil, not_false_eq_true, not_true_eq_false, ne_eq, or_false, false_or, or_self, false_and, and_false, or_true, true_or, ite_self, Int.add_sub_cancel, Int.sub_add_cancel, b_lc1, b_lc2, b_lc3, b_lc4, b_lc5, up_eq, up_ei, up_n1, up_n2, W32i, W8i, W16i, W64i, if_ps, if_ng, and_tr, fil_n1, fil_in, fil_out]
    have eN : ∀ i, 0 ≤ i → i < n + 1 → up (up (up (up (up (up T 34 55 (n + 1)) 145 k p) 146 k m) 147 k 0) 148 k 0) 149 k 0 146 i = zins (S 146) k m i := by
      intro i a1 a2
      rw [← r2 i m a1 a2]
      by_cases d : i = k
      · rw [d]; simp (disch := omega) only [true_and, and_true, and_self, if_true, if_false, ite_true, ite_false, reduceIte, Int.reduceEq, Int.reduceNe, Int.reduceLT, Int.reduceLE, Int.reduceAdd, Int.reduceSub, Int.reduceMul, Int.reduceNeg, Int.reduceMod, Int.reduceDiv, Int.reduceToNat, Nat.reduceAdd, Nat.reduceLeDiff, List.length_cons, List.length_nil, not_false_eq_true, not_true_eq_false, ne_eq, or_false, false_or, or_self, false_and, and_false, or_true, true_or, ite_self, Int.add_sub_cancel, Int.sub_add_cancel, b_lc1, b_lc2, b_lc3, b_lc4, b_lc5, up_eq, up_ei, up_n1, up_n2, W32i, W8i, W16i, W64i, if_ps, if_ng, and_tr, fil_n1, fil_in, fil_out]
      · simp (disch := omega) only [true_and, and_true, and_self, if_true, if_false, ite_true, ite_false, reduceIte, Int.reduceEq, Int.reduceNe, Int.reduceLT, Int.reduceLE, Int.reduceAdd, Int.reduceSub, Int.reduceMul, Int.reduceNeg, Int.reduceMod, Int.reduceDiv, Int.reduceToNat, Nat.reduceAdd, Nat.reduceLeDiff, List.length_cons, List.length_nil, not_false_eq_true, not_true_eq_false, ne_eq, or_false, false_or, or_self, false_and, and_false, or_true, true_or, ite_self, Int.add_sub_cancel, Int.sub_add_cancel, b_lc1, b_lc2, b_lc3, b_lc4, b_lc5, up_eq, up_ei, up_n1, up_n2, W32i, W8i, W16i, W64i, if_ps, if_ng, and_tr, fil_n1, fil_in, fil_out]
    refine ⟨up (up (up (up (up (up T 34 55 (n + 1)) 145 k p) 146 k m) 147 k 0) 148 k 0) 149 k 0, n + 1, k, fun Q => ?_, ?_, by omega, by omega, k0, by omega, by simp (disch := omega) only [true_and, and_true, and_self, if_true, if_false, ite_true, ite_false, reduceIte, Int.reduceEq, Int.reduceNe, Int.reduceLT, Int.reduceLE, Int.reduceAdd, Int.reduceSub, Int.reduceMul, Int.reduceNeg, Int.reduceMod, Int.reduceDiv, Int.reduceToNat, Nat.reduceAdd, Nat.reduceLeDiff, List.length_cons, List.length_nil, not_false_eq_true, not_true_eq_false, ne_eq, or_false, false_or, or_self, false_and, and_false, or_true, true_or, ite_self, Int.add_sub_cancel, Int.sub_add_cancel, b_lc1, b_lc2, b_lc3, b_lc4, b_lc5, up_eq, up_ei, up_n1, up_n2, W32i, W8i, W16i, W64i, if_ps, if_ng, and_tr, fil_n1, fil_in, fil_out], by simp (disch := omega) only [true_and, and_true, and_self, if_true, if_false, ite_true, ite_false, reduceIte, Int.reduceEq, Int.reduceNe, Int.reduceLT, Int.reduceLE, Int.reduceAdd, Int.reduceSub, Int.reduceMul, Int.reduceNeg, Int.reduceMod, Int.reduceDiv, Int.reduceToNat, Nat.reduceAdd, Nat.reduceLeDiff, List.length_cons, List.length_nil, not_false_eq_true, not_true_eq_false, ne_eq, or_false, false_or, or_self, false_and, and_false, or_true, true_or, ite_self, Int.add_sub_cancel, Int.sub_add_cancel, b_lc1, b_lc2, b_lc3, b_lc4, b_lc5, up_eq, up_ei, up_n1, up_n2, W32i, W8i, W16i, W64i, if_ps, if_ng, and_tr, fil_n1, fil_in, fil_out], ⟨?_, ?_⟩, ?_⟩
    · rw [st, s2, lu, L298_83]
      simp (disch := omega) only [bcd, true_and, and_true, and_self, if_true, if_false, ite_true, ite_false, reduceIte, Int.reduceEq, Int.reduceNe, Int.reduceLT, Int.reduceLE, Int.reduceAdd, Int.reduceSub, Int.reduceMul, Int.reduceNeg, Int.reduceMod, Int.reduceDiv, Int.reduceToNat, Nat.reduceAdd, Nat.reduceLeDiff, List.length_cons, List.length_nil, not_false_eq_true, not_true_eq_false, ne_eq, or_false, false_or, or_self, false_and, and_false, or_true, true_or, ite_self, Int.add_sub_cancel, Int.sub_add_cancel, b_lc1, b_lc2, b_lc3, b_lc4, b_lc5, up_eq, up_ei, up_n1, up_n2, W32i, W8i, W16i, W64i, if_ps, if_ng, and_tr, fil_n1, fil_in, fil_out, le_tt, le_ff, lt_tt, lt_ff, eq_tt, eq_ff, M298, szT]
    · have eI : ∀ i, 0 ≤ i → i < n + 1 → up (up (up (up (up (up T 34 55 (n + 1)) 145 k p) 146 k m) 147 k 0) 148 k 0) 149 k 0 147 i = zins (S 147) k 0 i := by
        intro i a1 a2
        rw [← r3 i 0 a1 a2]
        by_cases d : i = k
        · rw [d]; simp (disch := omega) only [true_and, and_true, and_self, if_true, if_false, ite_true, ite_false, reduceIte, Int.reduceEq, Int.reduceNe, Int.reduceLT, Int.reduceLE, Int.reduceAdd, Int.reduceSub, Int.reduceMul, Int.reduceNeg, Int.reduceMod, Int.reduceDiv, Int.reduceToNat, Nat.reduceAdd, Nat.reduceLeDiff, List.length_cons, List.length_nil, not_false_eq_true, not_true_eq_false, ne_eq, or_false, false_or, or_self, false_and, and_false, or_true, true_or, ite_self, Int.add_sub_cancel, Int.sub_add_cancel, b_lc1, b_lc2, b_lc3, b_lc4, b_lc5, up_eq, up_ei, up_n1, up_n2, W32i, W8i, W16i, W64i, if_ps, if_ng, and_tr, fil_n1, fil_in, fil_out]
        · simp (disch := omega) only [true_and, and_true, and_self, if_true, if_false, ite_true, ite_false, reduceIte, Int.reduceEq, Int.reduceNe, Int.reduceLT, Int.reduceLE, Int.reduceAdd, Int.reduceSub, Int.reduceMul, Int.reduceNeg, Int.reduceMod, Int.reduceDiv, Int.reduceToNat, Nat.reduceAdd, Nat.reduceLeDiff, List.length_cons, List.length_nil, not_false_eq_true, not_true_eq_false, ne_eq, or_false, false_or, or_self, false_and, and_false, or_true, true_or, ite_self, Int.add_sub_cancel, Int.sub_add_cancel, b_lc1, b_lc2, b_lc3, b_lc4, b_lc5, up_eq, up_ei, up_n1, up_n2, W32i, W8i, W16i, W64i, if_ps, if_ng, and_tr, fil_n1, fil_in, fil_out]
      have eO : ∀ i, 0 ≤ i → i < n + 1 → up (up (up (up (up (up T 34 55 (n + 1)) 145 k p) 146 k m) 147 k 0) 148 k 0) 149 k 0 148 i = zins (S 148) k 0 i := by
        intro i a1 a2
        rw [← r4 i 0 a1 a2]
        by_cases d : i = k
        · rw [d]; simp (disch := omega) only [true_and, and_true, and_self, if_true, if_false, ite_true, ite_false, reduceIte, Int.reduceEq, Int.reduceNe, Int.reduceLT, Int.reduceLE, Int.reduceAdd, Int.reduceSub, Int.reduceMul, Int.reduceNeg, Int.reduceMod, Int.reduceDiv, Int.reduceToNat, Nat.reduceAdd, Nat.reduceLeDiff, List.length_cons, List.length_nil, not_false_eq_true, not_true_eq_false, ne_eq, or_false, false_or, or_self, false_and, and_false, or_true, true_or, ite_self, Int.add_sub_cancel, Int.sub_add_cancel, b_lc1, b_lc2, b_lc3, b_lc4, b_lc5, up_eq, up_ei, up_n1, up_n2, W32i, W8i, W16i, W64i, if_ps, if_ng, and_tr, fil_n1, fil_in, fil_out]
        · simp (disch := omega) only [true_and, and_true, and_self, if_true, if_false, ite_true, ite_false, reduceIte, Int.reduceEq, Int.reduceNe, Int.reduceLT, Int.reduceLE, Int.reduceAdd, Int.reduceSub, Int.reduceMul, Int.reduceNeg, Int.reduceMod, Int.reduceDiv, Int.reduceToNat, Nat.reduceAdd, Nat.reduceLeDiff, List.length_cons, List.length_nil, not_false_eq_true, not_true_eq_false, ne_eq, or_false, false_or, or_self, false_and, and_false, or_true, true_or, ite_self, Int.add_sub_cancel, Int.sub_add_cancel, b_lc1, b_lc2, b_lc3, b_lc4, b_lc5, up_eq, up_ei, up_n1, up_n2, W32i, W8i, W16i, W64i, if_ps, if_ng, and_tr, fil_n1, fil_in, fil_out]
      have eM : ∀ i, 0 ≤ i → i < n + 1 → up (up (up (up (up (up T 34 55 (n + 1)) 145 k p) 146 k m) 147 k 0) 148 k 0) 149 k 0 149 i = zins (S 149) k 0 i := by
        intro i a1 a2
        rw [← r5 i 0 a1 a2]
        by_cases d : i = k
        · rw [d]; simp (disch := omega) only [true_and, and_true, and_self, if_true, if_false, ite_true, ite_false, reduceIte, Int.reduceEq, Int.reduceNe, Int.reduceLT, Int.reduceLE, Int.reduceAdd, Int.reduceSub, Int.reduceMul, Int.reduceNeg, Int.reduceMod, Int.reduceDiv, Int.reduceToNat, Nat.reduceAdd, Nat.reduceLeDiff, List.length_cons, List.length_nil, not_false_eq_true, not_true_eq_false, ne_eq, or_false, false_or, or_self, false_and, and_false, or_true, true_or, ite_self, Int.add_sub_cancel, Int.sub_add_cancel, b_lc1, b_lc2, b_lc3, b_lc4, b_lc5, up_eq, up_ei, up_n1, up_n2, W32i, W8i, W16i, W64i, if_ps, if_ng, and_tr, fil_n1, fil_in, fil_out]
        · simp (disch := omega) only [true_and, and_true, and_self, if_true, if_false, ite_true, ite_false, reduceIte, Int.reduceEq, Int.reduceNe, Int.reduceLT, Int.reduceLE, Int.reduceAdd, Int.reduceSub, Int.reduceMul, Int.reduceNeg, Int.reduceMod, Int.reduceDiv, Int.reduceToNat, Nat.reduceAdd, Nat.reduceLeDiff, List.length_cons, List.length_nil, not_false_eq_true, not_true_eq_false, ne_eq, or_false, false_or, or_self, false_and, and_false, or_true, true_or, ite_self, Int.add_sub_cancel, Int.sub_add_cancel, b_lc1, b_lc2, b_lc3, b_lc4, b_lc5, up_eq, up_ei, up_n1, up_n2, W32i, W8i, W16i, W64i, if_ps, if_ng, and_tr, fil_n1, fil_in, fil_out]
      have x1 := RP.ins h.ks h.ri K hm q eP eN eI
      have x2 := RP.ins h.ks h.ro K hm q eP eN eO
      have x3 := RP.ins h.ks h.rm K hm q eP eN eM
      rw [z0 gi (h.ri.no1 p m no)] at x1
      rw [z0 go (h.ro.no1 p m no)] at x2
      rw [z0 gm (h.rm.no1 p m no)] at x3
      apply MS.mk1
      case n1 => omega
      case sz => simp (disch := omega) only [true_and, and_true, and_self, if_true, if_false, ite_true, ite_false, reduceIte, Int.reduceEq, Int.reduceNe, Int.reduceLT, Int.reduceLE, Int.reduceAdd, Int.reduceSub, Int.reduceMul, Int.reduceNeg, Int.reduceMod, Int.reduceDiv, Int.reduceToNat, Nat.reduceAdd, Nat.reduceLeDiff, List.length_cons, List.length_nil, not_false_eq_true, not_true_eq_false, ne_eq, or_false, false_or, or_self, false_and, and_false, or_true, true_or, ite_self, Int.add_sub_cancel, Int.sub_add_cancel, b_lc1, b_lc2, b_lc3, b_lc4, b_lc5, up_eq, up_ei, up_n1, up_n2, W32i, W8i, W16i, W64i, if_ps, if_ng, and_tr, fil_n1, fil_in, fil_out]
      case ks => exact KS.ins h.ks K hp hm q eP eN
      case ri => exact x1
      case ro => exact x2
      case rm => exact x3
    · intro b b1 b2
      funext i
      simp (disch := omega) only [true_and, and_true, and_self, if_true, if_false, ite_true, ite_false, reduceIte, Int.reduceEq, Int.reduceNe, Int.reduceLT, Int.reduceLE, Int.reduceAdd, Int.reduceSub, Int.reduceMul, Int.reduceNeg, Int.reduceMod, Int.reduceDiv, Int.reduceToNat, Nat.reduceAdd, Nat.reduceLeDiff, List.length_cons, List.length_nil, not_false_eq_true, not_true_eq_false, ne_eq, or_false, false_or, or_self, false_and, and_false, or_true, true_or, ite_self, Int.add_sub_cancel, Int.sub_add_cancel, b_lc1, b_lc2, b_lc3, b_lc4, b_lc5, up_eq, up_ei, up_n1, up_n2, W32i, W8i, W16i, W64i, if_ps, if_ng, and_tr, fil_n1, fil_in, fil_out]
      rw [← hT]; unfold mmv; rw [if_neg (by omega)]
    · intro f hf
      simp (disch := omega) only [true_and, and_true, and_self, if_true, if_false, ite_true, ite_false, reduceIte, Int.reduceEq, Int.reduceNe, Int.reduceLT, Int.reduceLE, Int.reduceAdd, Int.reduceSub, Int.reduceMul, Int.reduceNeg, Int.reduceMod, Int.reduceDiv, Int.reduceToNat, Nat.reduceAdd, Nat.reduceLeDiff, List.length_cons, List.length_nil, not_false_eq_true, not_true_eq_false, ne_eq, or_false, false_or, or_self, false_and, and_false, or_true, true_or, ite_self, Int.add_sub_cancel, Int.sub_add_cancel, b_lc1, b_lc2, b_lc3, b_lc4, b_lc5, up_eq, up_ei, up_n1, up_n2, W32i, W8i, W16i, W64i, if_ps, if_ng, and_tr, fil_n1, fil_in, fil_out]
      rw [← hT]; unfold mmv; rw [if_neg (by omega)]
    · intro i a b
      rw [eP i a b, eN i a b]
      unfold zins
      by_cases c : i < k
      · rw [if_pos c, if_pos c]; exact Or.inr ⟨i, a, by omega, rfl, rfl⟩
      · rw [if_neg c, if_neg c]
        by_cases d : i = k
        · rw [if_pos d, if_pos d]; exact Or.inl ⟨rfl, rfl⟩
        · rw [if_neg d, if_neg d]; exact Or.inr ⟨i - 1, by omega, by omega, rfl, rfl⟩
/-- a number of a kind set anew -/
theorem MS.setI {S : Sto} {n k v : Int} {gi go gm : Int → Int → Int} (h : MS S n gi go gm) (k0 : 0 ≤ k) (k1 : k < n) : MS (up S 147 k v) n (gup gi (S 145 k) (S 146 k) v) go gm := by
  have r := RP.upd h.ks h.ri (A' := up S 147 k v 147) k0 k1 (v := v) (fun i a b => by
    by_cases c : i = k
    · rw [c, if_pos rfl]; simp (disch := omega) only [true_and, and_true, and_self, if_true, if_false, ite_true, ite_false, reduceIte, Int.reduceEq, Int.reduceNe, Int.reduceLT, Int.reduceLE, Int.reduceAdd, Int.reduceSub, Int.reduceMul, Int.reduceNeg, Int.reduceMod, Int.reduceDiv, Int.reduceToNat, Nat.reduceAdd, Nat.reduceLeDiff, List.length_cons, List.length_nil, not_false_eq_true, not_true_eq_false, ne_eq, or_false, false_or, or_self, false_and, and_false, or_true, true_or, ite_self, Int.add_sub_cancel, Int.sub_add_cancel, b_lc1, b_lc2, b_lc3, b_lc4, b_lc5, up_eq, up_ei, up_n1, up_n2, W32i, W8i, W16i, W64i, if_ps, if_ng, and_tr, fil_n1, fil_in, fil_out]
    · rw [if_neg c]; simp (disch := omega) only [true_and, and_true, and_self, if_true, if_false, ite_true, ite_false, reduceIte, Int.reduceEq, Int.reduceNe, Int.reduceLT, Int.reduceLE, Int.reduceAdd, Int.reduceSub, Int.reduceMul, Int.reduceNeg, Int.reduceMod, Int.reduceDiv, Int.reduceToNat, Nat.reduceAdd, Nat.reduceLeDiff, List.length_cons, List.length_nil, not_false_eq_true, not_true_eq_false, ne_eq, or_false, false_or, or_self, false_and, and_false, or_true, true_or, ite_self, Int.add_sub_cancel, Int.sub_add_cancel, b_lc1, b_lc2, b_lc3, b_lc4, b_lc5, up_eq, up_ei, up_n1, up_n2, W32i, W8i, W16i, W64i, if_ps, if_ng, and_tr, fil_n1, fil_in, fil_out])
  obtain ⟨h_n1, h_sz, h_ks, h_ri, h_ro, h_rm⟩ := h
  apply MS.mk1 <;> (try rw [up_fn _ _ _ _ 145 (by omega)]) <;> (try rw [up_fn _ _ _ _ 146 (by omega)]) <;> (try rw [up_fn _ _ _ _ 148 (by omega)]) <;> (try rw [up_fn _ _ _ _ 149 (by omega)]) <;> (try rw [up_fn _ _ _ _ 34 (by omega)]) <;> assumption
theorem MS.setO {S : Sto} {n k v : Int} {gi go gm : Int → Int → Int} (h : MS S n gi go gm) (k0 : 0 ≤ k) (k1 : k < n) : MS (up S 148 k v) n gi (gup go (S 145 k) (S 146 k) v) gm := by
  have r := RP.upd h.ks h.ro (A' := up S 148 k v 148) k0 k1 (v := v) (fun i a b => by
    by_cases c : i = k
    · rw [c, if_pos rfl]; simp (disch := omega) only [true_and, and_true, and_self, if_true, if_false, ite_true, ite_false, reduceIte, Int.reduceEq, Int.reduceNe, Int.reduceLT, Int.reduceLE, Int.reduceAdd, Int.reduceSub, Int.reduceMul, Int.reduceNeg, Int.reduceMod, Int.reduceDiv, Int.reduceToNat, Nat.reduceAdd, Nat.reduceLeDiff, List.length_cons, List.length_nil, not_false_eq_true, not_true_eq_false, ne_eq, or_false, false_or, or_self, false_and, and_false, or_true, true_or, ite_self, Int.add_sub_cancel, Int.sub_add_cancel, b_lc1, b_lc2, b_lc3, b_lc4, b_lc5, up_eq, up_ei, up_n1, up_n2, W32i, W8i, W16i, W64i, if_ps, if_ng, and_tr, fil_n1, fil_in, fil_out]
    · rw [if_neg c]; simp (disch := omega) only [true_and, and_true, and_self, if_true, if_false, ite_true, ite_false, reduceIte, Int.reduceEq, Int.reduceNe, Int.reduceLT, Int.reduceLE, Int.reduceAdd, Int.reduceSub, Int.reduceMul, Int.reduceNeg, Int.reduceMod, Int.reduceDiv, Int.reduceToNat, Nat.reduceAdd, Nat.reduceLeDiff, List.length_cons, List.length_nil, not_false_eq_true, not_true_eq_false, ne_eq, or_false, false_or, or_self, false_and, and_false, or_true, true_or, ite_self, Int.add_sub_cancel, Int.sub_add_cancel, b_lc1, b_lc2, b_lc3, b_lc4, b_lc5, up_eq, up_ei, up_n1, up_n2, W32i, W8i, W16i, W64i, if_ps, if_ng, and_tr, fil_n1, fil_in, fil_out])
  obtain ⟨h_n1, h_sz, h_ks, h_ri, h_ro, h_rm⟩ := h
  apply MS.mk1 <;> (try rw [up_fn _ _ _ _ 145 (by omega)]) <;> (try rw [up_fn _ _ _ _ 146 (by omega)]) <;> (try rw [up_fn _ _ _ _ 147 (by omega)]) <;> (try rw [up_fn _ _ _ _ 149 (by omega)]) <;> (try rw [up_fn _ _ _ _ 34 (by omega)]) <;> assumption
theorem MS.setM {S : Sto} {n k v : Int} {gi go gm : Int → Int → Int} (h : MS S n gi go gm) (k0 : 0 ≤ k) (k1 : k < n) : MS (up S 149 k v) n gi go (gup gm (S 145 k) (S 146 k) v) := by
  have r := RP.upd h.ks h.rm (A' := up S 149 k v 149) k0 k1 (v := v) (fun i a b => by
    by_cases c : i = k
    · rw [c, if_pos rfl]; simp (disch := omega) only [true_and, and_true, and_self, if_true, if_false, ite_true, ite_false, reduceIte, Int.reduceEq, Int.reduceNe, Int.reduceLT, Int.reduceLE, Int.reduceAdd, Int.reduceSub, Int.reduceMul, Int.reduceNeg, Int.reduceMod, Int.reduceDiv, Int.reduceToNat, Nat.reduceAdd, Nat.reduceLeDiff, List.length_cons, List.length_nil, not_false_eq_true, not_true_eq_false, ne_eq, or_false, false_or, or_self, false_and, and_false, or_true, true_or, ite_self, Int.add_sub_cancel, Int.sub_add_cancel, b_lc1, b_lc2, b_lc3, b_lc4, b_lc5, up_eq, up_ei, up_n1, up_n2, W32i, W8i, W16i, W64i, if_ps, if_ng, and_tr, fil_n1, fil_in, fil_out]
    · rw [if_neg c]; simp (disch := omega) only [true_and, and_true, and_self, if_true, if_false, ite_true, ite_false, reduceIte, Int.reduceEq, Int.reduceNe, Int.reduceLT, Int.reduceLE, Int.reduceAdd, Int.reduceSub, Int.reduceMul, Int.reduceNeg, Int.reduceMod, Int.reduceDiv, Int.reduceToNat, Nat.reduceAdd, Nat.reduceLeDiff, List.length_cons, List.length_nil, not_false_eq_true, not_true_eq_false, ne_eq, or_false, false_or, or_self, false_and, and_false, or_true, true_or, ite_self, Int.add_sub_cancel, Int.sub_add_cancel, b_lc1, b_lc2, b_lc3, b_lc4, b_lc5, up_eq, up_ei, up_n1, up_n2, W32i, W8i, W16i, W64i, if_ps, if_ng, and_tr, fil_n1, fil_in, fil_out])
  obtain ⟨h_n1, h_sz, h_ks, h_ri, h_ro, h_rm⟩ := h
  apply MS.mk1 <;> (try rw [up_fn _ _ _ _ 145 (by omega)]) <;> (try rw [up_fn _ _ _ _ 146 (by omega)]) <;> (try rw [up_fn _ _ _ _ 147 (by omega)]) <;> (try rw [up_fn _ _ _ _ 148 (by omega)]) <;> (try rw [up_fn _ _ _ _ 34 (by omega)]) <;> assumption
theorem sufr_row {S : Sto} {b k v : Int} (h : 145 ≤ b ∧ b ≤ 149) : sufr S (up S b k v) := ⟨fun c c1 c2 => by simp (disch := omega) only [true_and, and_true, and_self, if_true, if_false, ite_true, ite_false, reduceIte, Int.reduceEq, Int.reduceNe, Int.reduceLT, Int.reduceLE, Int.reduceAdd, Int.reduceSub, Int.reduceMul, Int.reduceNeg, Int.reduceMod, Int.reduceDiv, Int.reduceToNat, Nat.reduceAdd, Nat.reduceLeDiff, List.length_cons, List.length_nil, not_false_eq_true, not_true_eq_false, ne_eq, or_false, false_or, or_self, false_and, and_false, or_true, true_or, ite_self, Int.add_sub_cancel, Int.sub_add_cancel, b_lc1, b_lc2, b_lc3, b_lc4, b_lc5, up_eq, up_ei, up_n1, up_n2, W32i, W8i, W16i, W64i, if_ps, if_ng, and_tr, fil_n1, fil_in, fil_out, up_fn], fun f hf => by simp (disch := omega) only [true_and, and_true, and_self, if_true, if_false, ite_true, ite_false, reduceIte, Int.reduceEq, Int.reduceNe, Int.reduceLT, Int.reduceLE, Int.reduceAdd, Int.reduceSub, Int.reduceMul, Int.reduceNeg, Int.reduceMod, Int.reduceDiv, Int.reduceToNat, Nat.reduceAdd, Nat.reduceLeDiff, List.length_cons, List.length_nil, not_false_eq_true, not_true_eq_false, ne_eq, or_false, false_or, or_self, false_and, and_false, or_true, true_or, ite_self, Int.add_sub_cancel, Int.sub_add_cancel, b_lc1, b_lc2, b_lc3, b_lc4, b_lc5, up_eq, up_ei, up_n1, up_n2, W32i, W8i, W16i, W64i, if_ps, if_ng, and_tr, fil_n1, fil_in, fil_out]⟩
