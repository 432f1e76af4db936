-- uses: 51
/-- M's rows hold data from a node on -/
def mseg (S : Sto) : Int → Int → Int → F → Prop
  | _, _, _, .leaf => True
  | lv, k, p, .inner _ (fm, tg, tx) _ ks r => (S 134 k = fm ∧ S 135 k = tg ∧ S 136 k = zct fm tx ks ∧ S 138 k = p ∧ S 140 k = lv ∧ (fm = 4 → S 139 k = p + (zhdr fm tg tx (zct fm tx ks)).length - tx.length)) ∧ mseg S (lv + 1) (k + 1) (p + (zhdr fm tg tx (zct fm tx ks)).length) ks ∧ mseg S lv (k + 1 + fsize ks) (p + (zhdr fm tg tx (zct fm tx ks)).length + (fenc ks).length) r
def msame (S S' : Sto) (lo hi : Int) : Prop := ∀ i, lo ≤ i → i < hi → S' 134 i = S 134 i ∧ S' 135 i = S 135 i ∧ S' 136 i = S 136 i ∧ S' 138 i = S 138 i ∧ S' 140 i = S 140 i ∧ S' 139 i = S 139 i
theorem mseg_cg {S S' : Sto} : ∀ (f : F) (lv k p : Int), msame S S' k (k + fsize f) → mseg S lv k p f → mseg S' lv k p f
  | .leaf, _, _, _, _, _ => trivial
  | .inner _ (fm, tg, tx) _ ks r, lv, k, p, hs, h => by
    have s1 := fsize0 ks
    have s2 := fsize0 r
    simp only [fsize] at hs
    simp only [mseg] at h ⊢
    obtain ⟨⟨a1, a2, a3, a4, a5, a6⟩, b, c⟩ := h
    obtain ⟨e1, e2, e3, e4, e5, e6⟩ := hs k (by omega) (by omega)
    rw [e1, e2, e3, e4, e5, e6]
    exact ⟨⟨a1, a2, a3, a4, a5, a6⟩, mseg_cg ks _ _ _ (fun i x y => hs i (by omega) (by omega)) b, mseg_cg r _ _ _ (fun i x y => hs i (by omega) (by omega)) c⟩
/-- what the loop leaves as it was -/
def mL (S S' : Sto) (lv k : Int) : Prop := (∀ f, f ≠ 47 → f ≠ 48 → f ≠ 31 → f ≠ 49 → f ≠ 38 → S' 34 f = S 34 f) ∧ (∀ b, b ≠ 34 → b ≠ 134 → b ≠ 135 → b ≠ 136 → b ≠ 138 → b ≠ 139 → b ≠ 140 → b ≠ 141 → S' b = S b) ∧ (msame S S' 0 k) ∧ (∀ i, i < lv → S' 141 i = S 141 i)
theorem mL.mk1 {S S' : Sto} {lv k : Int} (ff : ∀ f, f ≠ 47 → f ≠ 48 → f ≠ 31 → f ≠ 49 → f ≠ 38 → S' 34 f = S 34 f) (fr : ∀ b, b ≠ 34 → b ≠ 134 → b ≠ 135 → b ≠ 136 → b ≠ 138 → b ≠ 139 → b ≠ 140 → b ≠ 141 → S' b = S b) (lo : msame S S' 0 k) (lf : ∀ i, i < lv → S' 141 i = S 141 i) : mL S S' lv k := by unfold mL; exact ⟨ff, fr, lo, lf⟩
theorem mL.ff {S S' : Sto} {lv k : Int} (h : mL S S' lv k) : ∀ f, f ≠ 47 → f ≠ 48 → f ≠ 31 → f ≠ 49 → f ≠ 38 → S' 34 f = S 34 f := by unfold mL at h; exact h.1
theorem mL.fr {S S' : Sto} {lv k : Int} (h : mL S S' lv k) : ∀ b, b ≠ 34 → b ≠ 134 → b ≠ 135 → b ≠ 136 → b ≠ 138 → b ≠ 139 → b ≠ 140 → b ≠ 141 → S' b = S b := by unfold mL at h; exact h.2.1
theorem mL.lo {S S' : Sto} {lv k : Int} (h : mL S S' lv k) : msame S S' 0 k := by unfold mL at h; exact h.2.2.1
theorem mL.lf {S S' : Sto} {lv k : Int} (h : mL S S' lv k) : ∀ i, i < lv → S' 141 i = S 141 i := by unfold mL at h; exact h.2.2.2
theorem mL.tr {S S' S'' : Sto} {lv k lv' k' : Int} (h : mL S S' lv k) (g : mL S' S'' lv' k') (h1 : lv ≤ lv') (h2 : k ≤ k') : mL S S'' lv k := by
  apply mL.mk1
  · intro f a b c d e; rw [g.ff f a b c d e, h.ff f a b c d e]
  · intro b a1 a2 a3 a4 a5 a6 a7 a8; rw [g.fr b a1 a2 a3 a4 a5 a6 a7 a8, h.fr b a1 a2 a3 a4 a5 a6 a7 a8]
  · intro i a b
    obtain ⟨e1, e2, e3, e4, e5, e6⟩ := h.lo i a b
    obtain ⟨f1, f2, f3, f4, f5, f6⟩ := g.lo i a (by omega)
    rw [f1, f2, f3, f4, f5, f6]; exact ⟨e1, e2, e3, e4, e5, e6⟩
  · intro i a; rw [g.lf i (by omega), h.lf i a]
/-- the end by a fault -/
def mX (S : Sto) (lv k : Int) (x y : AV) (e pl : Int) : Prop := ∃ S' lv' x' y', (∀ Q : ZQ, zG Cd 276 (Cd 276 29) [(34, 34), (0, lv), x, y] [] S Q = zG Cd 276 (Cd 276 92) [(34, 34), (0, lv'), x', y'] [] S' Q) ∧ S' 34 48 = e ∧ S' 34 31 = pl ∧ 0 < e ∧ mL S S' 0 0
/-- all at a level is read -/
def mY (S : Sto) (lv k p : Int) (x y : AV) (r : F) (p' k' : Int) : Prop := ∃ S' x' y', (∀ Q : ZQ, zG Cd 276 (Cd 276 29) [(34, 34), (0, lv), x, y] [] S Q = zG Cd 276 (Cd 276 29) [(34, 34), (0, lv), x', y'] [] S' Q) ∧ S' 34 48 = 0 ∧ S' 34 47 = p' ∧ S' 34 38 = k' ∧ S' 141 lv = 0 ∧ mL S S' lv k ∧ mseg S' lv k p r ∧ S' 34 31 = S 34 31
theorem m_it0 {S S1 : Sto} {lv c : Int} (x y : AV) (g1 : S 34 48 = 0) (g2 : 1 ≤ lv) (g3 : lv ≤ 13) (g4 : S 141 lv = c) (g5 : 0 < c) (g6 : c ≤ 2000) (r : ∀ Q : ZQ, zCall Cd 277 7 [(34, 34), (0, lv)] (up S 141 lv (c - 1)) Q = Q S1 (1, 0)) (Q : ZQ) : zG Cd 276 (Cd 276 29) [(34, 34), (0, lv), x, y] [] S Q = zG Cd 276 (Cd 276 29) [(34, 34), (0, lv), (1, 0), (9, 0)] [] S1 Q := by
  conv => lhs; rw [L276_29]
  simp (disch := omega) only [bcd, true_and, and_true, and_self, if_true, if_false, ite_true, ite_false, reduceIte, Int.reduceEq, Int.reduceNe, Int.reduceLT, Int.reduceLE, Int.reduceAdd, Int.reduceSub, Int.reduceMul, Int.reduceNeg, Int.reduceMod, Int.reduceDiv, Int.reduceToNat, Nat.reduceAdd, Nat.reduceLeDiff, List.length_cons, List.length_nil, not_false_eq_true, not_true_eq_false, ne_eq, or_false, false_or, or_self, false_and, and_false, or_true, true_or, ite_self, Int.add_sub_cancel, Int.sub_add_cancel, b_lc1, b_lc2, b_lc3, b_lc4, b_lc5, up_eq, up_ei, up_n1, up_n2, W32i, W8i, W16i, W64i, if_ps, if_ng, and_tr, fil_n1, fil_in, fil_out, le_tt, le_ff, lt_tt, lt_ff, eq_tt, eq_ff, M276, g1, g4, r]
theorem m_it1 {S S1 : Sto} {lv c n : Int} (x y : AV) (g1 : S 34 48 = 0) (g2 : 1 ≤ lv) (g3 : lv ≤ 12) (g4 : S 141 lv = c) (g5 : 0 < c) (g6 : c ≤ 2000) (g7 : 0 < n) (r : ∀ Q : ZQ, zCall Cd 277 7 [(34, 34), (0, lv)] (up S 141 lv (c - 1)) Q = Q S1 (1, n)) (Q : ZQ) : zG Cd 276 (Cd 276 29) [(34, 34), (0, lv), x, y] [] S Q = zG Cd 276 (Cd 276 29) [(34, 34), (0, lv + 1), (1, n), (9, 0)] [] (up S1 141 (lv + 1) n) Q := by
  conv => lhs; rw [L276_29]
  simp (disch := omega) only [bcd, true_and, and_true, and_self, if_true, if_false, ite_true, ite_false, reduceIte, Int.reduceEq, Int.reduceNe, Int.reduceLT, Int.reduceLE, Int.reduceAdd, Int.reduceSub, Int.reduceMul, Int.reduceNeg, Int.reduceMod, Int.reduceDiv, Int.reduceToNat, Nat.reduceAdd, Nat.reduceLeDiff, List.length_cons, List.length_nil, not_false_eq_true, not_true_eq_false, ne_eq, or_false, false_or, or_self, false_and, and_false, or_true, true_or, ite_self, Int.add_sub_cancel, Int.sub_add_cancel, b_lc1, b_lc2, b_lc3, b_lc4, b_lc5, up_eq, up_ei, up_n1, up_n2, W32i, W8i, W16i, W64i, if_ps, if_ng, and_tr, fil_n1, fil_in, fil_out, le_tt, le_ff, lt_tt, lt_ff, eq_tt, eq_ff, M276, g1, g4, r]
theorem m_pop {S : Sto} {lv : Int} (x y : AV) (g1 : S 34 48 = 0) (g2 : 1 ≤ lv) (g3 : lv ≤ 13) (g4 : S 141 lv = 0) (Q : ZQ) : zG Cd 276 (Cd 276 29) [(34, 34), (0, lv), x, y] [] S Q = zG Cd 276 (Cd 276 29) [(34, 34), (0, lv + -1), x, y] [] S Q := by
  conv => lhs; rw [L276_29]
  simp (disch := omega) only [bcd, true_and, and_true, and_self, if_true, if_false, ite_true, ite_false, reduceIte, Int.reduceEq, Int.reduceNe, Int.reduceLT, Int.reduceLE, Int.reduceAdd, Int.reduceSub, Int.reduceMul, Int.reduceNeg, Int.reduceMod, Int.reduceDiv, Int.reduceToNat, Nat.reduceAdd, Nat.reduceLeDiff, List.length_cons, List.length_nil, not_false_eq_true, not_true_eq_false, ne_eq, or_false, false_or, or_self, false_and, and_false, or_true, true_or, ite_self, Int.add_sub_cancel, Int.sub_add_cancel, b_lc1, b_lc2, b_lc3, b_lc4, b_lc5, up_eq, up_ei, up_n1, up_n2, W32i, W8i, W16i, W64i, if_ps, if_ng, and_tr, fil_n1, fil_in, fil_out, le_tt, le_ff, lt_tt, lt_ff, eq_tt, eq_ff, M276, g1, g4]
theorem m_out {S : Sto} {lv : Int} (x y : AV) (g1 : 0 < S 34 48) (Q : ZQ) : zG Cd 276 (Cd 276 29) [(34, 34), (0, lv), x, y] [] S Q = zG Cd 276 (Cd 276 92) [(34, 34), (0, lv), x, y] [] S Q := by
  rw [L276_29]
  by_cases q : lv ≤ 0 <;> simp (disch := omega) only [bcd, true_and, and_true, and_self, if_true, if_false, ite_true, ite_false, reduceIte, Int.reduceEq, Int.reduceNe, Int.reduceLT, Int.reduceLE, Int.reduceAdd, Int.reduceSub, Int.reduceMul, Int.reduceNeg, Int.reduceMod, Int.reduceDiv, Int.reduceToNat, Nat.reduceAdd, Nat.reduceLeDiff, List.length_cons, List.length_nil, not_false_eq_true, not_true_eq_false, ne_eq, or_false, false_or, or_self, false_and, and_false, or_true, true_or, ite_self, Int.add_sub_cancel, Int.sub_add_cancel, b_lc1, b_lc2, b_lc3, b_lc4, b_lc5, up_eq, up_ei, up_n1, up_n2, W32i, W8i, W16i, W64i, if_ps, if_ng, and_tr, fil_n1, fil_in, fil_out, le_tt, le_ff, lt_tt, lt_ff, eq_tt, eq_ff]
theorem m_out0 {S : Sto} (x y : AV) (Q : ZQ) : zG Cd 276 (Cd 276 29) [(34, 34), (0, 0), x, y] [] S Q = zG Cd 276 (Cd 276 92) [(34, 34), (0, 0), x, y] [] S Q := by
  rw [L276_29]
  simp (disch := omega) only [bcd, true_and, and_true, and_self, if_true, if_false, ite_true, ite_false, reduceIte, Int.reduceEq, Int.reduceNe, Int.reduceLT, Int.reduceLE, Int.reduceAdd, Int.reduceSub, Int.reduceMul, Int.reduceNeg, Int.reduceMod, Int.reduceDiv, Int.reduceToNat, Nat.reduceAdd, Nat.reduceLeDiff, List.length_cons, List.length_nil, not_false_eq_true, not_true_eq_false, ne_eq, or_false, false_or, or_self, false_and, and_false, or_true, true_or, ite_self, Int.add_sub_cancel, Int.sub_add_cancel, b_lc1, b_lc2, b_lc3, b_lc4, b_lc5, up_eq, up_ei, up_n1, up_n2, W32i, W8i, W16i, W64i, if_ps, if_ng, and_tr, fil_n1, fil_in, fil_out, le_tt, le_ff, lt_tt, lt_ff, eq_tt, eq_ff]
theorem mL.z {S S' : Sto} {lv k : Int} (h : mL S S' lv k) (h1 : 0 ≤ lv) (h2 : 0 ≤ k) : mL S S' 0 0 := by
  apply mL.mk1
  · exact h.ff
  · exact h.fr
  · intro i a b; omega
  · intro i a; exact h.lf i (by omega)
theorem m_loop {N : Int} (h4 : N ≤ 4096) : ∀ (f : Nat) (lv c p k : Int) (S : Sto) (x y : AV), S 34 48 = 0 → S 34 47 = p → S 34 38 = k → S 34 2 = N → 0 ≤ p → p ≤ N → 0 ≤ k → k ≤ 200 → 1 ≤ lv → lv ≤ 13 → S 141 lv = c → 0 ≤ c → c ≤ 2000 → 201 - k ≤ f →
    match rdF (mB S) N f lv c p k with
    | .error (e, pl) => mX S lv k x y e pl
    | .ok (r, p', k') => mY S lv k p x y r p' k' := by
  intro f
  induction f with
  | zero => intro lv c p k S x y; intros; omega
  | succ f ih =>
    intro lv c p k S x y g1 g2 g3 g4 g5 g6 g7 g8 g9 g10 g11 g12 g13 g14
    have hB := mB_by S N
    rw [rdF]
    by_cases c0 : c = 0
    · rw [if_pos c0]
      refine ⟨S, x, y, fun Q => rfl, g1, g2, g3, by omega, ?_, trivial, rfl⟩
      apply mL.mk1
      · intros; rfl
      · intros; rfl
      · intro i _ _; exact ⟨rfl, rfl, rfl, rfl, rfl, rfl⟩
      · intros; rfl
    · rw [if_neg c0]
      obtain ⟨S0, hS0⟩ : ∃ S0, S0 = up S 141 lv (c - 1) := ⟨_, rfl⟩
      have u1 : S0 34 48 = 0 := by rw [hS0]; simp (disch := omega) only [true_and, and_true, and_self, if_true, if_false, ite_true, ite_false, reduceIte, Int.reduceEq, Int.reduceNe, Int.reduceLT, Int.reduceLE, Int.reduceAdd, Int.reduceSub, Int.reduceMul, Int.reduceNeg, Int.reduceMod, Int.reduceDiv, Int.reduceToNat, Nat.reduceAdd, Nat.reduceLeDiff, List.length_cons, List.length_nil, not_false_eq_true, not_true_eq_false, ne_eq, or_false, false_or, or_self, false_and, and_false, or_true, true_or, ite_self, Int.add_sub_cancel, Int.sub_add_cancel, b_lc1, b_lc2, b_lc3, b_lc4, b_lc5, up_eq, up_ei, up_n1, up_n2, W32i, W8i, W16i, W64i, if_ps, if_ng, and_tr, fil_n1, fil_in, fil_out, g1]
      have u2 : S0 34 47 = p := by rw [hS0]; simp (disch := omega) only [true_and, and_true, and_self, if_true, if_false, ite_true, ite_false, reduceIte, Int.reduceEq, Int.reduceNe, Int.reduceLT, Int.reduceLE, Int.reduceAdd, Int.reduceSub, Int.reduceMul, Int.reduceNeg, Int.reduceMod, Int.reduceDiv, Int.reduceToNat, Nat.reduceAdd, Nat.reduceLeDiff, List.length_cons, List.length_nil, not_false_eq_true, not_true_eq_false, ne_eq, or_false, false_or, or_self, false_and, and_false, or_true, true_or, ite_self, Int.add_sub_cancel, Int.sub_add_cancel, b_lc1, b_lc2, b_lc3, b_lc4, b_lc5, up_eq, up_ei, up_n1, up_n2, W32i, W8i, W16i, W64i, if_ps, if_ng, and_tr, fil_n1, fil_in, fil_out, g2]
      have u3 : S0 34 38 = k := by rw [hS0]; simp (disch := omega) only [true_and, and_true, and_self, if_true, if_false, ite_true, ite_false, reduceIte, Int.reduceEq, Int.reduceNe, Int.reduceLT, Int.reduceLE, Int.reduceAdd, Int.reduceSub, Int.reduceMul, Int.reduceNeg, Int.reduceMod, Int.reduceDiv, Int.reduceToNat, Nat.reduceAdd, Nat.reduceLeDiff, List.length_cons, List.length_nil, not_false_eq_true, not_true_eq_false, ne_eq, or_false, false_or, or_self, false_and, and_false, or_true, true_or, ite_self, Int.add_sub_cancel, Int.sub_add_cancel, b_lc1, b_lc2, b_lc3, b_lc4, b_lc5, up_eq, up_ei, up_n1, up_n2, W32i, W8i, W16i, W64i, if_ps, if_ng, and_tr, fil_n1, fil_in, fil_out, g3]
      have u4 : S0 34 2 = N := by rw [hS0]; simp (disch := omega) only [true_and, and_true, and_self, if_true, if_false, ite_true, ite_false, reduceIte, Int.reduceEq, Int.reduceNe, Int.reduceLT, Int.reduceLE, Int.reduceAdd, Int.reduceSub, Int.reduceMul, Int.reduceNeg, Int.reduceMod, Int.reduceDiv, Int.reduceToNat, Nat.reduceAdd, Nat.reduceLeDiff, List.length_cons, List.length_nil, not_false_eq_true, not_true_eq_false, ne_eq, or_false, false_or, or_self, false_and, and_false, or_true, true_or, ite_self, Int.add_sub_cancel, Int.sub_add_cancel, b_lc1, b_lc2, b_lc3, b_lc4, b_lc5, up_eq, up_ei, up_n1, up_n2, W32i, W8i, W16i, W64i, if_ps, if_ng, and_tr, fil_n1, fil_in, fil_out, g4]
      have u5 : mB S0 = mB S := by rw [hS0]; unfold mB; simp (disch := omega) only [true_and, and_true, and_self, if_true, if_false, ite_true, ite_false, reduceIte, Int.reduceEq, Int.reduceNe, Int.reduceLT, Int.reduceLE, Int.reduceAdd, Int.reduceSub, Int.reduceMul, Int.reduceNeg, Int.reduceMod, Int.reduceDiv, Int.reduceToNat, Nat.reduceAdd, Nat.reduceLeDiff, List.length_cons, List.length_nil, not_false_eq_true, not_true_eq_false, ne_eq, or_false, false_or, or_self, false_and, and_false, or_true, true_or, ite_self, Int.add_sub_cancel, Int.sub_add_cancel, b_lc1, b_lc2, b_lc3, b_lc4, b_lc5, up_eq, up_ei, up_n1, up_n2, W32i, W8i, W16i, W64i, if_ps, if_ng, and_tr, fil_n1, fil_in, fil_out, up_fn]
      have nd := m_node (lv := lv) u1 u2 u3 g5 g6 u4 h4 g7 g8
      rw [u5] at nd
      have l0 : mL S S0 lv k := by
        rw [hS0]
        apply mL.mk1
        · intros; simp (disch := omega) only [true_and, and_true, and_self, if_true, if_false, ite_true, ite_false, reduceIte, Int.reduceEq, Int.reduceNe, Int.reduceLT, Int.reduceLE, Int.reduceAdd, Int.reduceSub, Int.reduceMul, Int.reduceNeg, Int.reduceMod, Int.reduceDiv, Int.reduceToNat, Nat.reduceAdd, Nat.reduceLeDiff, List.length_cons, List.length_nil, not_false_eq_true, not_true_eq_false, ne_eq, or_false, false_or, or_self, false_and, and_false, or_true, true_or, ite_self, Int.add_sub_cancel, Int.sub_add_cancel, b_lc1, b_lc2, b_lc3, b_lc4, b_lc5, up_eq, up_ei, up_n1, up_n2, W32i, W8i, W16i, W64i, if_ps, if_ng, and_tr, fil_n1, fil_in, fil_out]
        · intros; simp (disch := omega) only [true_and, and_true, and_self, if_true, if_false, ite_true, ite_false, reduceIte, Int.reduceEq, Int.reduceNe, Int.reduceLT, Int.reduceLE, Int.reduceAdd, Int.reduceSub, Int.reduceMul, Int.reduceNeg, Int.reduceMod, Int.reduceDiv, Int.reduceToNat, Nat.reduceAdd, Nat.reduceLeDiff, List.length_cons, List.length_nil, not_false_eq_true, not_true_eq_false, ne_eq, or_false, false_or, or_self, false_and, and_false, or_true, true_or, ite_self, Int.add_sub_cancel, Int.sub_add_cancel, b_lc1, b_lc2, b_lc3, b_lc4, b_lc5, up_eq, up_ei, up_n1, up_n2, W32i, W8i, W16i, W64i, if_ps, if_ng, and_tr, fil_n1, fil_in, fil_out, up_fn]
        · intro i _ _; simp (disch := omega) only [true_and, and_true, and_self, if_true, if_false, ite_true, ite_false, reduceIte, Int.reduceEq, Int.reduceNe, Int.reduceLT, Int.reduceLE, Int.reduceAdd, Int.reduceSub, Int.reduceMul, Int.reduceNeg, Int.reduceMod, Int.reduceDiv, Int.reduceToNat, Nat.reduceAdd, Nat.reduceLeDiff, List.length_cons, List.length_nil, not_false_eq_true, not_true_eq_false, ne_eq, or_false, false_or, or_self, false_and, and_false, or_true, true_or, ite_self, Int.add_sub_cancel, Int.sub_add_cancel, b_lc1, b_lc2, b_lc3, b_lc4, b_lc5, up_eq, up_ei, up_n1, up_n2, W32i, W8i, W16i, W64i, if_ps, if_ng, and_tr, fil_n1, fil_in, fil_out, up_fn]
        · intros; simp (disch := omega) only [true_and, and_true, and_self, if_true, if_false, ite_true, ite_false, reduceIte, Int.reduceEq, Int.reduceNe, Int.reduceLT, Int.reduceLE, Int.reduceAdd, Int.reduceSub, Int.reduceMul, Int.reduceNeg, Int.reduceMod, Int.reduceDiv, Int.reduceToNat, Nat.reduceAdd, Nat.reduceLeDiff, List.length_cons, List.length_nil, not_false_eq_true, not_true_eq_false, ne_eq, or_false, false_or, or_self, false_and, and_false, or_true, true_or, ite_self, Int.add_sub_cancel, Int.sub_add_cancel, b_lc1, b_lc2, b_lc3, b_lc4, b_lc5, up_eq, up_ei, up_n1, up_n2, W32i, W8i, W16i, W64i, if_ps, if_ng, and_tr, fil_n1, fil_in, fil_out]
      have lE : ∀ S1, mfr2 S0 S1 → mL S0 S1 0 0 := by
        intro S1 a
        apply mL.mk1
        · exact a.1
        · intro b b1 b2 b3 b4 b5 b6 b7 _; exact a.2 b b1 b2 b3 b4 b5 b6 b7
        · intro i _ _; omega
        · intro i _; rw [a.2 141 (by decide) (by decide) (by decide) (by decide) (by decide) (by decide) (by decide)]
      /- a fault of the node -/
      have flt : ∀ e pl, mE S0 lv e pl → mX S lv k x y e pl := by
        rintro e pl ⟨S1, r, a1, a2, a3, a4⟩
        unfold zR at r
        rw [hS0] at r
        refine ⟨S1, lv, (1, 0), (9, 0), fun Q => ?_, a1, a2, a4, (l0.z (by omega) (by omega)).tr (lE S1 a3) (by omega) (by omega)⟩
        rw [m_it0 x y g1 g9 g10 g11 (by omega) g13 r, m_out _ _ (by omega)]
      cases hh : rdH (mB S) N p (-1) with
      | error ep =>
        obtain ⟨e, pl⟩ := ep
        rw [hh] at nd
        exact flt e pl nd
      | ok kvp =>
        obtain ⟨kd, v, p1⟩ := kvp
        rw [hh] at nd
        simp only at nd ⊢
        by_cases z : znum kd v
        · rw [if_neg (fun q => q z)] at nd ⊢
          by_cases l : 12 < lv
          · rw [if_pos l] at nd ⊢
            exact flt _ _ nd
          · rw [if_neg l] at nd ⊢
            by_cases k2 : k = 200
            · rw [if_pos k2] at nd ⊢
              exact flt _ _ nd
            · rw [if_neg k2] at nd ⊢
              cases hb : rdB (mB S) N kd v p1 with
              | error ep =>
                obtain ⟨e, pl⟩ := ep
                rw [hb] at nd
                exact flt e pl nd
              | ok tnp =>
                obtain ⟨tx, n, p2⟩ := tnp
                rw [hb] at nd
                simp only at nd ⊢
                obtain ⟨S1, r, m1⟩ := nd
                obtain ⟨b1, b2, b3, b4⟩ := rdB_ok hB g5 g6 hh z hb
                have nb : n ≤ 2000 := by
                  unfold rdB at hb
                  have cc : ∀ w, 0 ≤ zcap w ∧ zcap w ≤ 1000 := by intro w; unfold zcap; split <;> omega
                  have c1 := cc v
                  split at hb
                  · injection hb with hb; injection hb with _ hb; injection hb with hb _; omega
                  · split at hb
                    · split at hb
                      · cases hb
                      · injection hb with hb; injection hb with _ hb; injection hb with hb _; omega
                    · split at hb
                      · split at hb
                        · cases hb
                        · rename_i w _ _; have c2 := cc w; injection hb with hb; injection hb with _ hb; injection hb with hb _; omega
                      · injection hb with hb; injection hb with _ hb; injection hb with hb _; split at hb <;> omega
                unfold zR at r
                have v5 : mB S1 = mB S := by unfold mB; rw [m1.fr 114 (by decide) (by decide) (by decide) (by decide) (by decide) (by decide) (by decide), hS0]; simp (disch := omega) only [true_and, and_true, and_self, if_true, if_false, ite_true, ite_false, reduceIte, Int.reduceEq, Int.reduceNe, Int.reduceLT, Int.reduceLE, Int.reduceAdd, Int.reduceSub, Int.reduceMul, Int.reduceNeg, Int.reduceMod, Int.reduceDiv, Int.reduceToNat, Nat.reduceAdd, Nat.reduceLeDiff, List.length_cons, List.length_nil, not_false_eq_true, not_true_eq_false, ne_eq, or_false, false_or, or_self, false_and, and_false, or_true, true_or, ite_self, Int.add_sub_cancel, Int.sub_add_cancel, b_lc1, b_lc2, b_lc3, b_lc4, b_lc5, up_eq, up_ei, up_n1, up_n2, W32i, W8i, W16i, W64i, if_ps, if_ng, and_tr, fil_n1, fil_in, fil_out, up_fn]
                have v4 : S1 34 2 = N := by rw [m1.ff _ (by decide) (by decide) (by decide)]; exact u4
                have ml1 : S1 141 = S0 141 := m1.fr 141 (by decide) (by decide) (by decide) (by decide) (by decide) (by decide) (by decide)
                have l1 : mL S0 S1 lv k := by
                  apply mL.mk1
                  · intro f f1 f2 f3 f4 f5; exact m1.ff f f1 f5 f4
                  · intro b b1 b2 b3 b4 b5 b6 b7 _; exact m1.fr b b1 b2 b3 b4 b5 b6 b7
                  · intro i a b
                    rw [m1.frm, m1.tag, m1.cnt, m1.hd, m1.lvl, m1.txt]
                    simp only [fset, if_neg (show ¬ i = k by omega)]
                    exact ⟨trivial, trivial, trivial, trivial, trivial, trivial⟩
                  · intro i a; rw [ml1]
                /- what is within it -/
                have kids : match rdF (mB S) N f (lv + 1) n p2 (k + 1) with
                    | .error (e, pl) => mX S lv k x y e pl
                    | .ok (ks, p3, k3) => ∃ S2 x' y', (∀ Q : ZQ, zG Cd 276 (Cd 276 29) [(34, 34), (0, lv), x, y] [] S Q = zG Cd 276 (Cd 276 29) [(34, 34), (0, lv), x', y'] [] S2 Q) ∧ S2 34 48 = 0 ∧ S2 34 47 = p3 ∧ S2 34 38 = k3 ∧ S2 141 lv = c - 1 ∧ mL S1 S2 (lv + 1) (k + 1) ∧ mseg S2 (lv + 1) (k + 1) p2 ks ∧ S2 34 31 = S1 34 31 := by
                  by_cases n0 : n = 0
                  · subst n0
                    have : ∃ f', f = f' + 1 := ⟨f - 1, by omega⟩
                    obtain ⟨f', rfl⟩ := this
                    rw [rdF, if_pos rfl]
                    rw [hS0] at r
                    refine ⟨S1, (1, 0), (9, 0), fun Q => m_it0 x y g1 g9 g10 g11 (by omega) g13 r Q, m1.ft, m1.pp, m1.nd, ?_, ?_, trivial, rfl⟩
                    · rw [ml1, hS0]; simp (disch := omega) only [true_and, and_true, and_self, if_true, if_false, ite_true, ite_false, reduceIte, Int.reduceEq, Int.reduceNe, Int.reduceLT, Int.reduceLE, Int.reduceAdd, Int.reduceSub, Int.reduceMul, Int.reduceNeg, Int.reduceMod, Int.reduceDiv, Int.reduceToNat, Nat.reduceAdd, Nat.reduceLeDiff, List.length_cons, List.length_nil, not_false_eq_true, not_true_eq_false, ne_eq, or_false, false_or, or_self, false_and, and_false, or_true, true_or, ite_self, Int.add_sub_cancel, Int.sub_add_cancel, b_lc1, b_lc2, b_lc3, b_lc4, b_lc5, up_eq, up_ei, up_n1, up_n2, W32i, W8i, W16i, W64i, if_ps, if_ng, and_tr, fil_n1, fil_in, fil_out]
                    · apply mL.mk1
                      · intros; rfl
                      · intros; rfl
                      · intro i _ _; exact ⟨rfl, rfl, rfl, rfl, rfl, rfl⟩
                      · intros; rfl
                  · rw [hS0] at r
                    have I := ih (lv + 1) n p2 (k + 1) (up S1 141 (lv + 1) n) (1, n) (9, 0) (by simp (disch := omega) only [true_and, and_true, and_self, if_true, if_false, ite_true, ite_false, reduceIte, Int.reduceEq, Int.reduceNe, Int.reduceLT, Int.reduceLE, Int.reduceAdd, Int.reduceSub, Int.reduceMul, Int.reduceNeg, Int.reduceMod, Int.reduceDiv, Int.reduceToNat, Nat.reduceAdd, Nat.reduceLeDiff, List.length_cons, List.length_nil, not_false_eq_true, not_true_eq_false, ne_eq, or_false, false_or, or_self, false_and, and_false, or_true, true_or, ite_self, Int.add_sub_cancel, Int.sub_add_cancel, b_lc1, b_lc2, b_lc3, b_lc4, b_lc5, up_eq, up_ei, up_n1, up_n2, W32i, W8i, W16i, W64i, if_ps, if_ng, and_tr, fil_n1, fil_in, fil_out]; exact m1.ft) (by simp (disch := omega) only [true_and, and_true, and_self, if_true, if_false, ite_true, ite_false, reduceIte, Int.reduceEq, Int.reduceNe, Int.reduceLT, Int.reduceLE, Int.reduceAdd, Int.reduceSub, Int.reduceMul, Int.reduceNeg, Int.reduceMod, Int.reduceDiv, Int.reduceToNat, Nat.reduceAdd, Nat.reduceLeDiff, List.length_cons, List.length_nil, not_false_eq_true, not_true_eq_false, ne_eq, or_false, false_or, or_self, false_and, and_false, or_true, true_or, ite_self, Int.add_sub_cancel, Int.sub_add_cancel, b_lc1, b_lc2, b_lc3, b_lc4, b_lc5, up_eq, up_ei, up_n1, up_n2, W32i, W8i, W16i, W64i, if_ps, if_ng, and_tr, fil_n1, fil_in, fil_out]; exact m1.pp) (by simp (disch := omega) only [true_and, and_true, and_self, if_true, if_false, ite_true, ite_false, reduceIte, Int.reduceEq, Int.reduceNe, Int.reduceLT, Int.reduceLE, Int.reduceAdd, Int.reduceSub, Int.reduceMul, Int.reduceNeg, Int.reduceMod, Int.reduceDiv, Int.reduceToNat, Nat.reduceAdd, Nat.reduceLeDiff, List.length_cons, List.length_nil, not_false_eq_true, not_true_eq_false, ne_eq, or_false, false_or, or_self, false_and, and_false, or_true, true_or, ite_self, Int.add_sub_cancel, Int.sub_add_cancel, b_lc1, b_lc2, b_lc3, b_lc4, b_lc5, up_eq, up_ei, up_n1, up_n2, W32i, W8i, W16i, W64i, if_ps, if_ng, and_tr, fil_n1, fil_in, fil_out]; exact m1.nd) (by simp (disch := omega) only [true_and, and_true, and_self, if_true, if_false, ite_true, ite_false, reduceIte, Int.reduceEq, Int.reduceNe, Int.reduceLT, Int.reduceLE, Int.reduceAdd, Int.reduceSub, Int.reduceMul, Int.reduceNeg, Int.reduceMod, Int.reduceDiv, Int.reduceToNat, Nat.reduceAdd, Nat.reduceLeDiff, List.length_cons, List.length_nil, not_false_eq_true, not_true_eq_false, ne_eq, or_false, false_or, or_self, false_and, and_false, or_true, true_or, ite_self, Int.add_sub_cancel, Int.sub_add_cancel, b_lc1, b_lc2, b_lc3, b_lc4, b_lc5, up_eq, up_ei, up_n1, up_n2, W32i, W8i, W16i, W64i, if_ps, if_ng, and_tr, fil_n1, fil_in, fil_out]; exact v4) (by omega) b2 (by omega) (by omega) (by omega) (by omega) (by simp (disch := omega) only [true_and, and_true, and_self, if_true, if_false, ite_true, ite_false, reduceIte, Int.reduceEq, Int.reduceNe, Int.reduceLT, Int.reduceLE, Int.reduceAdd, Int.reduceSub, Int.reduceMul, Int.reduceNeg, Int.reduceMod, Int.reduceDiv, Int.reduceToNat, Nat.reduceAdd, Nat.reduceLeDiff, List.length_cons, List.length_nil, not_false_eq_true, not_true_eq_false, ne_eq, or_false, false_or, or_self, false_and, and_false, or_true, true_or, ite_self, Int.add_sub_cancel, Int.sub_add_cancel, b_lc1, b_lc2, b_lc3, b_lc4, b_lc5, up_eq, up_ei, up_n1, up_n2, W32i, W8i, W16i, W64i, if_ps, if_ng, and_tr, fil_n1, fil_in, fil_out]) b3 nb (by omega)
                    have v6 : mB (up S1 141 (lv + 1) n) = mB S := by rw [← v5]; unfold mB; simp (disch := omega) only [true_and, and_true, and_self, if_true, if_false, ite_true, ite_false, reduceIte, Int.reduceEq, Int.reduceNe, Int.reduceLT, Int.reduceLE, Int.reduceAdd, Int.reduceSub, Int.reduceMul, Int.reduceNeg, Int.reduceMod, Int.reduceDiv, Int.reduceToNat, Nat.reduceAdd, Nat.reduceLeDiff, List.length_cons, List.length_nil, not_false_eq_true, not_true_eq_false, ne_eq, or_false, false_or, or_self, false_and, and_false, or_true, true_or, ite_self, Int.add_sub_cancel, Int.sub_add_cancel, b_lc1, b_lc2, b_lc3, b_lc4, b_lc5, up_eq, up_ei, up_n1, up_n2, W32i, W8i, W16i, W64i, if_ps, if_ng, and_tr, fil_n1, fil_in, fil_out, up_fn]
                    rw [v6] at I
                    have l2 : mL S1 (up S1 141 (lv + 1) n) (lv + 1) (k + 1) := by
                      apply mL.mk1
                      · intros; simp (disch := omega) only [true_and, and_true, and_self, if_true, if_false, ite_true, ite_false, reduceIte, Int.reduceEq, Int.reduceNe, Int.reduceLT, Int.reduceLE, Int.reduceAdd, Int.reduceSub, Int.reduceMul, Int.reduceNeg, Int.reduceMod, Int.reduceDiv, Int.reduceToNat, Nat.reduceAdd, Nat.reduceLeDiff, List.length_cons, List.length_nil, not_false_eq_true, not_true_eq_false, ne_eq, or_false, false_or, or_self, false_and, and_false, or_true, true_or, ite_self, Int.add_sub_cancel, Int.sub_add_cancel, b_lc1, b_lc2, b_lc3, b_lc4, b_lc5, up_eq, up_ei, up_n1, up_n2, W32i, W8i, W16i, W64i, if_ps, if_ng, and_tr, fil_n1, fil_in, fil_out]
                      · intros; simp (disch := omega) only [true_and, and_true, and_self, if_true, if_false, ite_true, ite_false, reduceIte, Int.reduceEq, Int.reduceNe, Int.reduceLT, Int.reduceLE, Int.reduceAdd, Int.reduceSub, Int.reduceMul, Int.reduceNeg, Int.reduceMod, Int.reduceDiv, Int.reduceToNat, Nat.reduceAdd, Nat.reduceLeDiff, List.length_cons, List.length_nil, not_false_eq_true, not_true_eq_false, ne_eq, or_false, false_or, or_self, false_and, and_false, or_true, true_or, ite_self, Int.add_sub_cancel, Int.sub_add_cancel, b_lc1, b_lc2, b_lc3, b_lc4, b_lc5, up_eq, up_ei, up_n1, up_n2, W32i, W8i, W16i, W64i, if_ps, if_ng, and_tr, fil_n1, fil_in, fil_out, up_fn]
                      · intro i _ _; simp (disch := omega) only [true_and, and_true, and_self, if_true, if_false, ite_true, ite_false, reduceIte, Int.reduceEq, Int.reduceNe, Int.reduceLT, Int.reduceLE, Int.reduceAdd, Int.reduceSub, Int.reduceMul, Int.reduceNeg, Int.reduceMod, Int.reduceDiv, Int.reduceToNat, Nat.reduceAdd, Nat.reduceLeDiff, List.length_cons, List.length_nil, not_false_eq_true, not_true_eq_false, ne_eq, or_false, false_or, or_self, false_and, and_false, or_true, true_or, ite_self, Int.add_sub_cancel, Int.sub_add_cancel, b_lc1, b_lc2, b_lc3, b_lc4, b_lc5, up_eq, up_ei, up_n1, up_n2, W32i, W8i, W16i, W64i, if_ps, if_ng, and_tr, fil_n1, fil_in, fil_out, up_fn]
                      · intros; simp (disch := omega) only [true_and, and_true, and_self, if_true, if_false, ite_true, ite_false, reduceIte, Int.reduceEq, Int.reduceNe, Int.reduceLT, Int.reduceLE, Int.reduceAdd, Int.reduceSub, Int.reduceMul, Int.reduceNeg, Int.reduceMod, Int.reduceDiv, Int.reduceToNat, Nat.reduceAdd, Nat.reduceLeDiff, List.length_cons, List.length_nil, not_false_eq_true, not_true_eq_false, ne_eq, or_false, false_or, or_self, false_and, and_false, or_true, true_or, ite_self, Int.add_sub_cancel, Int.sub_add_cancel, b_lc1, b_lc2, b_lc3, b_lc4, b_lc5, up_eq, up_ei, up_n1, up_n2, W32i, W8i, W16i, W64i, if_ps, if_ng, and_tr, fil_n1, fil_in, fil_out]
                    have step := fun Q => m_it1 x y g1 g9 (by omega) g11 (by omega) g13 (by omega) r Q
                    cases hk : rdF (mB S) N f (lv + 1) n p2 (k + 1) with
                    | error ep =>
                      obtain ⟨e, pl⟩ := ep
                      rw [hk] at I
                      obtain ⟨S', lv', x', y', i1, i2, i3, i4, i5⟩ := I
                      refine ⟨S', lv', x', y', fun Q => by rw [step, i1], i2, i3, i4, ?_⟩
                      exact (((l0.z (by omega) (by omega)).tr (l1.z (by omega) (by omega)) (by omega) (by omega)).tr (l2.z (by omega) (by omega)) (by omega) (by omega)).tr i5 (by omega) (by omega)
                    | ok kpk =>
                      obtain ⟨ks, p3, k3⟩ := kpk
                      rw [hk] at I
                      obtain ⟨S', x', y', i1, i2, i3, i4, i5, i6, i7, i8⟩ := I
                      refine ⟨S', x', y', fun Q => by rw [step, i1, m_pop _ _ i2 (by omega) (by omega) i5, show lv + 1 + -1 = lv by omega], i2, i3, i4, ?_, l2.tr i6 (by omega) (by omega), i7, by rw [i8]; simp (disch := omega) only [true_and, and_true, and_self, if_true, if_false, ite_true, ite_false, reduceIte, Int.reduceEq, Int.reduceNe, Int.reduceLT, Int.reduceLE, Int.reduceAdd, Int.reduceSub, Int.reduceMul, Int.reduceNeg, Int.reduceMod, Int.reduceDiv, Int.reduceToNat, Nat.reduceAdd, Nat.reduceLeDiff, List.length_cons, List.length_nil, not_false_eq_true, not_true_eq_false, ne_eq, or_false, false_or, or_self, false_and, and_false, or_true, true_or, ite_self, Int.add_sub_cancel, Int.sub_add_cancel, b_lc1, b_lc2, b_lc3, b_lc4, b_lc5, up_eq, up_ei, up_n1, up_n2, W32i, W8i, W16i, W64i, if_ps, if_ng, and_tr, fil_n1, fil_in, fil_out]⟩
                      rw [i6.lf lv (by omega)]
                      simp (disch := omega) only [true_and, and_true, and_self, if_true, if_false, ite_true, ite_false, reduceIte, Int.reduceEq, Int.reduceNe, Int.reduceLT, Int.reduceLE, Int.reduceAdd, Int.reduceSub, Int.reduceMul, Int.reduceNeg, Int.reduceMod, Int.reduceDiv, Int.reduceToNat, Nat.reduceAdd, Nat.reduceLeDiff, List.length_cons, List.length_nil, not_false_eq_true, not_true_eq_false, ne_eq, or_false, false_or, or_self, false_and, and_false, or_true, true_or, ite_self, Int.add_sub_cancel, Int.sub_add_cancel, b_lc1, b_lc2, b_lc3, b_lc4, b_lc5, up_eq, up_ei, up_n1, up_n2, W32i, W8i, W16i, W64i, if_ps, if_ng, and_tr, fil_n1, fil_in, fil_out]
                      rw [ml1, hS0]; simp (disch := omega) only [true_and, and_true, and_self, if_true, if_false, ite_true, ite_false, reduceIte, Int.reduceEq, Int.reduceNe, Int.reduceLT, Int.reduceLE, Int.reduceAdd, Int.reduceSub, Int.reduceMul, Int.reduceNeg, Int.reduceMod, Int.reduceDiv, Int.reduceToNat, Nat.reduceAdd, Nat.reduceLeDiff, List.length_cons, List.length_nil, not_false_eq_true, not_true_eq_false, ne_eq, or_false, false_or, or_self, false_and, and_false, or_true, true_or, ite_self, Int.add_sub_cancel, Int.sub_add_cancel, b_lc1, b_lc2, b_lc3, b_lc4, b_lc5, up_eq, up_ei, up_n1, up_n2, W32i, W8i, W16i, W64i, if_ps, if_ng, and_tr, fil_n1, fil_in, fil_out]
                cases hk : rdF (mB S) N f (lv + 1) n p2 (k + 1) with
                | error ep =>
                  obtain ⟨e, pl⟩ := ep
                  rw [hk] at kids
                  exact kids
                | ok kpk =>
                  obtain ⟨ks, p3, k3⟩ := kpk
                  rw [hk] at kids
                  simp only at kids ⊢
                  obtain ⟨S2, x', y', i1, i2, i3, i4, i5, i6, i7, i8⟩ := kids
                  obtain ⟨q1, q2, q3, q4, q5, q6, q7⟩ := rdF_ok hB _ _ _ _ _ _ _ _ (by omega) b2 b3 (by omega) (by omega) hk
                  have s1 := fsize0 ks
                  have w4 : S2 34 2 = N := by rw [i6.ff _ (by decide) (by decide) (by decide) (by decide) (by decide)]; exact v4
                  have w5 : mB S2 = mB S := by rw [← v5]; unfold mB; rw [i6.fr 114 (by decide) (by decide) (by decide) (by decide) (by decide) (by decide) (by decide) (by decide)]
                  have J := ih lv (c - 1) p3 k3 S2 x' y' i2 i3 i4 w4 (by omega) q5 (by omega) q3 g9 g10 i5 (by omega) (by omega) (by omega)
                  rw [w5] at J
                  have l3 : mL S S2 lv k := (l0.tr l1 (by omega) (by omega)).tr i6 (by omega) (by omega)
                  cases hr : rdF (mB S) N f lv (c - 1) p3 k3 with
                  | error ep =>
                    obtain ⟨e, pl⟩ := ep
                    rw [hr] at J
                    obtain ⟨S', lv', x'', y'', j1, j2, j3, j4, j5⟩ := J
                    exact ⟨S', lv', x'', y'', fun Q => by rw [i1, j1], j2, j3, j4, (l3.z (by omega) (by omega)).tr j5 (by omega) (by omega)⟩
                  | ok rpk =>
                    obtain ⟨r', p4, k4⟩ := rpk
                    rw [hr] at J
                    obtain ⟨S', x'', y'', j1, j2, j3, j4, j5, j6, j7, j8⟩ := J
                    have ln := flen_le ks
                    obtain ⟨nd1, nd2⟩ := b4 ks q1 (by omega)
                    have hl : (((zhdr (zfm kd) (zntg kd v) tx (zct (zfm kd) tx ks)).length : Nat) : Int) = p2 - p := by rw [nd2, ztxt_len]; omega
                    have el : ((fenc ks).length : Int) = p3 - p2 := by rw [q6, ztxt_len]; omega
                    refine ⟨S', x'', y'', fun Q => by rw [i1, j1], j2, j3, j4, j5, l3.tr j6 (by omega) (by omega), ?_, by rw [j8, i8, m1.ff _ (by decide) (by decide) (by decide), hS0]; simp (disch := omega) only [true_and, and_true, and_self, if_true, if_false, ite_true, ite_false, reduceIte, Int.reduceEq, Int.reduceNe, Int.reduceLT, Int.reduceLE, Int.reduceAdd, Int.reduceSub, Int.reduceMul, Int.reduceNeg, Int.reduceMod, Int.reduceDiv, Int.reduceToNat, Nat.reduceAdd, Nat.reduceLeDiff, List.length_cons, List.length_nil, not_false_eq_true, not_true_eq_false, ne_eq, or_false, false_or, or_self, false_and, and_false, or_true, true_or, ite_self, Int.add_sub_cancel, Int.sub_add_cancel, b_lc1, b_lc2, b_lc3, b_lc4, b_lc5, up_eq, up_ei, up_n1, up_n2, W32i, W8i, W16i, W64i, if_ps, if_ng, and_tr, fil_n1, fil_in, fil_out]⟩
                    simp only [fcons, mseg]
                    rw [hl, show p + (p2 - p) = p2 by omega, el, show p2 + (p3 - p2) = p3 by omega]
                    refine ⟨?_, ?_, ?_⟩
                    · obtain ⟨e1, e2, e3, e4, e5, e6⟩ := j6.lo k (by omega) (by omega)
                      obtain ⟨f1, f2, f3, f4, f5, f6⟩ := i6.lo k (by omega) (by omega)
                      rw [e1, e2, e3, e4, e5, e6, f1, f2, f3, f4, f5, f6, m1.frm, m1.tag, m1.cnt, m1.hd, m1.lvl, m1.txt]
                      simp only [fset, if_true]
                      refine ⟨trivial, trivial, ?_, trivial, trivial, ?_⟩
                      · obtain ⟨_, _, _, _, t5, t6, t7, _⟩ := rdH_sound hB g5 g6 hh
                        have hkd : kd = 0 ∨ kd = 1 ∨ kd = 2 ∨ kd = 4 ∨ kd = 5 ∨ kd = 6 := by omega
                        have n0 : kd < 2 → n = 0 := by
                          intro q
                          unfold rdB at hb
                          rw [if_pos q] at hb
                          injection hb with hb; injection hb with _ hb; injection hb with hb _; exact hb.symm
                        rcases hkd with rfl | rfl | rfl | rfl | rfl | rfl
                        · rw [n0 (by decide)]; rfl
                        · rw [n0 (by decide)]; rfl
                        · rfl
                        · exact q1.symm
                        · show n / 2 = flen ks / 2; rw [q1]
                        · exact q1.symm
                      · intro q
                        have k2 : kd = 2 := by unfold zfm at q; (repeat' split at q) <;> first | omega | assumption
                        subst k2
                        have zz := z.2.1 rfl
                        unfold rdB at hb
                        rw [if_neg (by decide), if_pos rfl] at hb
                        split at hb
                        · cases hb
                        · simp only [Except.ok.injEq, Prod.mk.injEq] at hb
                          obtain ⟨hb1, _, hb⟩ := hb
                          rw [← hb1, ztxt_len]
                          omega
                    · apply mseg_cg ks _ _ _ _ i7
                      intro i a b
                      exact j6.lo i (by omega) (by omega)
                    · rw [show k + 1 + fsize ks = k3 by omega]; exact j7
        · rw [if_pos z] at nd ⊢
          exact flt _ _ nd
