-- uses: 77
/-! M: whether the data are a transaction -/
theorem cI_long {f : F} {n : Int} (v : fval 1 f) (n0 : 0 ≤ n) (n1 : n < fsize f) : cI f n (-9223372036854775808) 9223372036854775807 ↔ nf f n = 3 := by
  constructor
  · exact fun x => x.1
  · intro q
    have w := ((nW_of f 1 n v n0 n1).t3 q).1
    unfold zLong at w
    exact ⟨q, by omega, by omega⟩
def MFl (S : Sto) (f : F) : Prop := (∀ j : Nat, j < 8 → S 142 j = w0 f j) ∧ (True)
theorem MFl.mk1 {S : Sto} {f : F} (fl : ∀ j : Nat, j < 8 → S 142 j = w0 f j) (tr : True) : MFl S f := by unfold MFl; exact ⟨fl, tr⟩
theorem MFl.fl {S : Sto} {f : F} (h : MFl S f) : ∀ j : Nat, j < 8 → S 142 j = w0 f j := by unfold MFl at h; exact h.1
theorem MFl.tr {S : Sto} {f : F} (h : MFl S f) : True := by unfold MFl at h; exact h.2
theorem m_flds {f : F} (hM : cM f 0 0 8) (hv : fval 1 f) (f0 : 0 < fsize f) (Q : ZQ) : ∀ (c : Nat) (j : Int) (S : Sto), MD S f → j + c = 8 → 0 ≤ j → zG Cd 283 (Cd 283 15) [(34, 34), (0, j), (9, 0), (9, 0)] [] S Q = zG Cd 283 (Cd 283 15) [(34, 34), (0, 8), (9, 0), (9, 0)] [] (fil S 142 j 8 (fun i => wi f 0 i.toNat)) Q := by
  have e8 : nch f 0 = 8 := by unfold nch; rw [if_neg (by have := hM.1; omega), if_pos (Or.inl hM.1)]; exact hM.2.2
  intro c
  induction c with
  | zero =>
    intro j S h hj j0
    rw [fil_nil _ _ _ _ _ (by omega), show j = 8 by omega]
  | succ c ih =>
    intro j S h hj j0
    have wt := fun Q => m_within h 0 j (by omega) f0 (by omega) j0 Q
    have st : zG Cd 283 (Cd 283 15) [(34, 34), (0, j), (9, 0), (9, 0)] [] S Q = zG Cd 283 (Cd 283 15) [(34, 34), (0, j + 1), (9, 0), (9, 0)] [] (up S 142 j (wi f 0 j.toNat)) Q := by
      conv => lhs; rw [L283_15]
      simp (disch := omega) only [bcd, true_and, and_true, and_self, if_true, if_false, ite_true, ite_false, reduceIte, Int.reduceEq, Int.reduceNe, Int.reduceLT, Int.reduceLE, Int.reduceAdd, Int.reduceSub, Int.reduceMul, Int.reduceNeg, Int.reduceMod, Int.reduceDiv, Int.reduceToNat, Nat.reduceAdd, Nat.reduceLeDiff, List.length_cons, List.length_nil, not_false_eq_true, not_true_eq_false, ne_eq, or_false, false_or, or_self, false_and, and_false, or_true, true_or, ite_self, Int.add_sub_cancel, Int.sub_add_cancel, b_lc1, b_lc2, b_lc3, b_lc4, b_lc5, up_eq, up_ei, up_n1, up_n2, W32i, W8i, W16i, W64i, if_ps, if_ng, and_tr, fil_n1, fil_in, fil_out, le_tt, le_ff, lt_tt, lt_ff, eq_tt, eq_ff, wt]
    have h' : MD (up S 142 j (wi f 0 j.toNat)) f := by
      obtain ⟨h_v, h_sz, h_fm, h_tg, h_ct, h_wh⟩ := h
      apply MD.mk1 <;> first | assumption | (simp (disch := omega) only [true_and, and_true, and_self, if_true, if_false, ite_true, ite_false, reduceIte, Int.reduceEq, Int.reduceNe, Int.reduceLT, Int.reduceLE, Int.reduceAdd, Int.reduceSub, Int.reduceMul, Int.reduceNeg, Int.reduceMod, Int.reduceDiv, Int.reduceToNat, Nat.reduceAdd, Nat.reduceLeDiff, List.length_cons, List.length_nil, not_false_eq_true, not_true_eq_false, ne_eq, or_false, false_or, or_self, false_and, and_false, or_true, true_or, ite_self, Int.add_sub_cancel, Int.sub_add_cancel, b_lc1, b_lc2, b_lc3, b_lc4, b_lc5, up_eq, up_ei, up_n1, up_n2, W32i, W8i, W16i, W64i, if_ps, if_ng, and_tr, fil_n1, fil_in, fil_out]; assumption)
    rw [st, ih (j + 1) _ h' (by omega) (by omega), fil_cons S 142 j (j + 1) 8 (wi f 0 j.toNat) (fun i => wi f 0 i.toNat) (by omega) rfl rfl]
/-- what is not one any more stays so -/
theorem m_no94 {S : Sto} {f : F} (g : MFl S f) (hM : cM f 0 0 8) (hv : fval 1 f) (hz : fsize f ≤ 200) (f0 : 0 < fsize f) (k : Int) (c : AV) (Q : ZQ) : zG Cd 283 (Cd 283 214) [(34, 34), (0, 0), (0, k), c] [] S Q = Q S (0, 0) := by
  have k4 : S 142 4 = w0 f 4 := g.fl 4 (by omega)
  rw [L283_214]
  simp (disch := omega) only [bcd, true_and, and_true, and_self, if_true, if_false, ite_true, ite_false, reduceIte, Int.reduceEq, Int.reduceNe, Int.reduceLT, Int.reduceLE, Int.reduceAdd, Int.reduceSub, Int.reduceMul, Int.reduceNeg, Int.reduceMod, Int.reduceDiv, Int.reduceToNat, Nat.reduceAdd, Nat.reduceLeDiff, List.length_cons, List.length_nil, not_false_eq_true, not_true_eq_false, ne_eq, or_false, false_or, or_self, false_and, and_false, or_true, true_or, ite_self, Int.add_sub_cancel, Int.sub_add_cancel, b_lc1, b_lc2, b_lc3, b_lc4, b_lc5, up_eq, up_ei, up_n1, up_n2, W32i, W8i, W16i, W64i, if_ps, if_ng, and_tr, fil_n1, fil_in, fil_out, le_tt, le_ff, lt_tt, lt_ff, eq_tt, eq_ff, M283, k4]
theorem m_no161 {S : Sto} {f : F} (g : MFl S f) (hM : cM f 0 0 8) (hv : fval 1 f) (hz : fsize f ≤ 200) (f0 : 0 < fsize f) (k : Int) (c : AV) (Q : ZQ) : zG Cd 283 (Cd 283 161) [(34, 34), (0, 0), (0, k), c] [] S Q = Q S (0, 0) := by
  have n := fun k => m_no94 g hM hv hz f0 k c Q
  rw [L283_161]
  simp (disch := omega) only [bcd, true_and, and_true, and_self, if_true, if_false, ite_true, ite_false, reduceIte, Int.reduceEq, Int.reduceNe, Int.reduceLT, Int.reduceLE, Int.reduceAdd, Int.reduceSub, Int.reduceMul, Int.reduceNeg, Int.reduceMod, Int.reduceDiv, Int.reduceToNat, Nat.reduceAdd, Nat.reduceLeDiff, List.length_cons, List.length_nil, not_false_eq_true, not_true_eq_false, ne_eq, or_false, false_or, or_self, false_and, and_false, or_true, true_or, ite_self, Int.add_sub_cancel, Int.sub_add_cancel, b_lc1, b_lc2, b_lc3, b_lc4, b_lc5, up_eq, up_ei, up_n1, up_n2, W32i, W8i, W16i, W64i, if_ps, if_ng, and_tr, fil_n1, fil_in, fil_out, le_tt, le_ff, lt_tt, lt_ff, eq_tt, eq_ff, M283, n]
theorem m_no214 {S : Sto} {f : F} (g : MFl S f) (hM : cM f 0 0 8) (hv : fval 1 f) (hz : fsize f ≤ 200) (f0 : 0 < fsize f) (k : Int) (c : AV) (Q : ZQ) : zG Cd 283 (Cd 283 94) [(34, 34), (0, 0), (0, k), c] [] S Q = Q S (0, 0) := by
  have n := fun k => m_no161 g hM hv hz f0 k c Q
  rw [L283_94]
  simp (disch := omega) only [bcd, true_and, and_true, and_self, if_true, if_false, ite_true, ite_false, reduceIte, Int.reduceEq, Int.reduceNe, Int.reduceLT, Int.reduceLE, Int.reduceAdd, Int.reduceSub, Int.reduceMul, Int.reduceNeg, Int.reduceMod, Int.reduceDiv, Int.reduceToNat, Nat.reduceAdd, Nat.reduceLeDiff, List.length_cons, List.length_nil, not_false_eq_true, not_true_eq_false, ne_eq, or_false, false_or, or_self, false_and, and_false, or_true, true_or, ite_self, Int.add_sub_cancel, Int.sub_add_cancel, b_lc1, b_lc2, b_lc3, b_lc4, b_lc5, up_eq, up_ei, up_n1, up_n2, W32i, W8i, W16i, W64i, if_ps, if_ng, and_tr, fil_n1, fil_in, fil_out, le_tt, le_ff, lt_tt, lt_ff, eq_tt, eq_ff, M283, n]
theorem m_ins {S : Sto} {f : F} (h : MD S f) (g : MFl S f) (hM : cM f 0 0 8) (f0 : 0 < fsize f) (A1 : cL f (w0 f 0) 1 8) (Q : ZQ) : ∀ (c i : Nat) (y : AV), (i : Int) + c = nc f (w0 f 0) → (zall (pIn f (w0 f 0)) c i = true → ∃ y', zG Cd 283 (Cd 283 94) [(34, 34), (0, 1), (0, (i : Int)), y] [] S Q = zG Cd 283 (Cd 283 161) [(34, 34), (0, 1), (0, 0), y'] [] S Q) ∧ (¬ zall (pIn f (w0 f 0)) c i = true → zG Cd 283 (Cd 283 94) [(34, 34), (0, 1), (0, (i : Int)), y] [] S Q = Q S (0, 0)) := by
  have sz := h.sz
  have i0 := w0_in h.v hM f0 0 (by omega)
  have k0 : S 142 0 = w0 f 0 := g.fl 0 (by omega)
  have ct := h.ct (w0 f 0) (by omega) i0.2
  intro c
  induction c with
  | zero =>
    intro i y hi
    refine ⟨fun _ => ⟨y, ?_⟩, fun x => absurd rfl x⟩
    rw [L283_94]
    obtain ⟨R, hR⟩ : ∃ R, zG Cd 283 (Cd 283 161) [(34, 34), (0, 1), (0, 0), y] [] S Q = R := ⟨_, rfl⟩
    simp (disch := omega) only [bcd, true_and, and_true, and_self, if_true, if_false, ite_true, ite_false, reduceIte, Int.reduceEq, Int.reduceNe, Int.reduceLT, Int.reduceLE, Int.reduceAdd, Int.reduceSub, Int.reduceMul, Int.reduceNeg, Int.reduceMod, Int.reduceDiv, Int.reduceToNat, Nat.reduceAdd, Nat.reduceLeDiff, List.length_cons, List.length_nil, not_false_eq_true, not_true_eq_false, ne_eq, or_false, false_or, or_self, false_and, and_false, or_true, true_or, ite_self, Int.add_sub_cancel, Int.sub_add_cancel, b_lc1, b_lc2, b_lc3, b_lc4, b_lc5, up_eq, up_ei, up_n1, up_n2, W32i, W8i, W16i, W64i, if_ps, if_ng, and_tr, fil_n1, fil_in, fil_out, le_tt, le_ff, lt_tt, lt_ff, eq_tt, eq_ff, M283, k0, ct, hR]
  | succ c ih =>
    intro i y hi
    obtain ⟨a1, a2, a3⟩ := wi_l h.v (by omega) i0.2 A1.1 i (by omega)
    have wt := fun Q => m_within h (w0 f 0) (i : Int) (by omega) i0.2 (by omega) (by omega) Q
    rw [show ((i : Int)).toNat = i by omega] at wt
    have ic := fun Q => m_isCon h (wi f (w0 f 0) i) 0 2 (by omega) a2 Q
    have N := fun k c => m_no214 g hM h.v sz f0 k c Q
    have I := ih (i + 1) (0, wi f (w0 f 0) i) (by omega)
    rw [show ((i + 1 : Nat) : Int) = (i : Int) + 1 by omega] at I
    rw [zall]
    have st : zG Cd 283 (Cd 283 94) [(34, 34), (0, 1), (0, (i : Int)), y] [] S Q = zG Cd 283 (Cd 283 94) [(34, 34), (0, zb1 (pIn f (w0 f 0) i)), (0, (i : Int) + 1), (0, wi f (w0 f 0) i)] [] S Q := by
      conv => lhs; rw [L283_94]
      by_cases c1 : cM f (wi f (w0 f 0) i) 0 2
      · simp only [if_pos c1] at ic
        have nk := nk_in h.v (by omega) a2 (Or.inl c1.1) c1.2.2
        have fm := h.fm (wi f (w0 f 0) i + 1) (by omega) (by omega)
        by_cases c2 : nf f (wi f (w0 f 0) i + 1) = 3
        · rw [show pIn f (w0 f 0) i = true from decide_eq_true ⟨c1, c2⟩, zb1_t]
          simp (disch := omega) only [bcd, true_and, and_true, and_self, if_true, if_false, ite_true, ite_false, reduceIte, Int.reduceEq, Int.reduceNe, Int.reduceLT, Int.reduceLE, Int.reduceAdd, Int.reduceSub, Int.reduceMul, Int.reduceNeg, Int.reduceMod, Int.reduceDiv, Int.reduceToNat, Nat.reduceAdd, Nat.reduceLeDiff, List.length_cons, List.length_nil, not_false_eq_true, not_true_eq_false, ne_eq, or_false, false_or, or_self, false_and, and_false, or_true, true_or, ite_self, Int.add_sub_cancel, Int.sub_add_cancel, b_lc1, b_lc2, b_lc3, b_lc4, b_lc5, up_eq, up_ei, up_n1, up_n2, W32i, W8i, W16i, W64i, if_ps, if_ng, and_tr, fil_n1, fil_in, fil_out, le_tt, le_ff, lt_tt, lt_ff, eq_tt, eq_ff, M283, k0, ct, wt, ic, fm, c2]
        · rw [show pIn f (w0 f 0) i = false from decide_eq_false (fun x => c2 x.2), zb1_f]
          simp (disch := omega) only [bcd, true_and, and_true, and_self, if_true, if_false, ite_true, ite_false, reduceIte, Int.reduceEq, Int.reduceNe, Int.reduceLT, Int.reduceLE, Int.reduceAdd, Int.reduceSub, Int.reduceMul, Int.reduceNeg, Int.reduceMod, Int.reduceDiv, Int.reduceToNat, Nat.reduceAdd, Nat.reduceLeDiff, List.length_cons, List.length_nil, not_false_eq_true, not_true_eq_false, ne_eq, or_false, false_or, or_self, false_and, and_false, or_true, true_or, ite_self, Int.add_sub_cancel, Int.sub_add_cancel, b_lc1, b_lc2, b_lc3, b_lc4, b_lc5, up_eq, up_ei, up_n1, up_n2, W32i, W8i, W16i, W64i, if_ps, if_ng, and_tr, fil_n1, fil_in, fil_out, le_tt, le_ff, lt_tt, lt_ff, eq_tt, eq_ff, M283, k0, ct, wt, ic, fm, c2]
      · simp only [if_neg c1] at ic
        rw [show pIn f (w0 f 0) i = false from decide_eq_false (fun x => c1 x.1), zb1_f]
        simp (disch := omega) only [bcd, true_and, and_true, and_self, if_true, if_false, ite_true, ite_false, reduceIte, Int.reduceEq, Int.reduceNe, Int.reduceLT, Int.reduceLE, Int.reduceAdd, Int.reduceSub, Int.reduceMul, Int.reduceNeg, Int.reduceMod, Int.reduceDiv, Int.reduceToNat, Nat.reduceAdd, Nat.reduceLeDiff, List.length_cons, List.length_nil, not_false_eq_true, not_true_eq_false, ne_eq, or_false, false_or, or_self, false_and, and_false, or_true, true_or, ite_self, Int.add_sub_cancel, Int.sub_add_cancel, b_lc1, b_lc2, b_lc3, b_lc4, b_lc5, up_eq, up_ei, up_n1, up_n2, W32i, W8i, W16i, W64i, if_ps, if_ng, and_tr, fil_n1, fil_in, fil_out, le_tt, le_ff, lt_tt, lt_ff, eq_tt, eq_ff, M283, k0, ct, wt, ic]
    rw [st]
    cases q : pIn f (w0 f 0) i
    · rw [Bool.false_and, zb1_f]
      exact ⟨fun x => absurd x (by decide), fun _ => N _ _⟩
    · rw [Bool.true_and, zb1_t]
      exact I
theorem m_cols {S : Sto} {f : F} (h : MD S f) (g : MFl S f) (hM : cM f 0 0 8) (f0 : 0 < fsize f) (A1 : cL f (w0 f 1) 0 4) (Q : ZQ) (y : AV) : ∀ (c i : Nat), (i : Int) + c = nc f (w0 f 1) → (zall (pInt f (w0 f 1) (-9223372036854775808) 9223372036854775807) c i = true → zG Cd 283 (Cd 283 161) [(34, 34), (0, 1), (0, (i : Int)), y] [] S Q = zG Cd 283 (Cd 283 214) [(34, 34), (0, 1), (0, 0), y] [] S Q) ∧ (¬ zall (pInt f (w0 f 1) (-9223372036854775808) 9223372036854775807) c i = true → zG Cd 283 (Cd 283 161) [(34, 34), (0, 1), (0, (i : Int)), y] [] S Q = Q S (0, 0)) := by
  have sz := h.sz
  have i0 := w0_in h.v hM f0 1 (by omega)
  have k0 : S 142 1 = w0 f 1 := g.fl 1 (by omega)
  have ct := h.ct (w0 f 1) (by omega) i0.2
  intro c
  induction c with
  | zero =>
    intro i hi
    refine ⟨fun _ => ?_, fun x => absurd rfl x⟩
    rw [L283_161]
    obtain ⟨R, hR⟩ : ∃ R, zG Cd 283 (Cd 283 214) [(34, 34), (0, 1), (0, 0), y] [] S Q = R := ⟨_, rfl⟩
    simp (disch := omega) only [bcd, true_and, and_true, and_self, if_true, if_false, ite_true, ite_false, reduceIte, Int.reduceEq, Int.reduceNe, Int.reduceLT, Int.reduceLE, Int.reduceAdd, Int.reduceSub, Int.reduceMul, Int.reduceNeg, Int.reduceMod, Int.reduceDiv, Int.reduceToNat, Nat.reduceAdd, Nat.reduceLeDiff, List.length_cons, List.length_nil, not_false_eq_true, not_true_eq_false, ne_eq, or_false, false_or, or_self, false_and, and_false, or_true, true_or, ite_self, Int.add_sub_cancel, Int.sub_add_cancel, b_lc1, b_lc2, b_lc3, b_lc4, b_lc5, up_eq, up_ei, up_n1, up_n2, W32i, W8i, W16i, W64i, if_ps, if_ng, and_tr, fil_n1, fil_in, fil_out, le_tt, le_ff, lt_tt, lt_ff, eq_tt, eq_ff, M283, k0, ct, hR]
  | succ c ih =>
    intro i hi
    obtain ⟨a1, a2, a3⟩ := wi_l h.v (by omega) i0.2 A1.1 i (by omega)
    have wt := fun Q => m_within h (w0 f 1) (i : Int) (by omega) i0.2 (by omega) (by omega) Q
    rw [show ((i : Int)).toNat = i by omega] at wt
    have N := fun k => m_no161 g hM h.v sz f0 k y Q
    have I := ih (i + 1) (by omega)
    rw [show ((i + 1 : Nat) : Int) = (i : Int) + 1 by omega] at I
    have fm := h.fm (wi f (w0 f 1) i) (by omega) a2
    rw [zall]
    have st : zG Cd 283 (Cd 283 161) [(34, 34), (0, 1), (0, (i : Int)), y] [] S Q = zG Cd 283 (Cd 283 161) [(34, 34), (0, zb1 (pInt f (w0 f 1) (-9223372036854775808) 9223372036854775807 i)), (0, (i : Int) + 1), y] [] S Q := by
      conv => lhs; rw [L283_161]
      by_cases c2 : nf f (wi f (w0 f 1) i) = 3
      · rw [show pInt f (w0 f 1) (-9223372036854775808) 9223372036854775807 i = true from decide_eq_true ((cI_long h.v (by omega) a2).mpr c2), zb1_t]
        simp (disch := omega) only [bcd, true_and, and_true, and_self, if_true, if_false, ite_true, ite_false, reduceIte, Int.reduceEq, Int.reduceNe, Int.reduceLT, Int.reduceLE, Int.reduceAdd, Int.reduceSub, Int.reduceMul, Int.reduceNeg, Int.reduceMod, Int.reduceDiv, Int.reduceToNat, Nat.reduceAdd, Nat.reduceLeDiff, List.length_cons, List.length_nil, not_false_eq_true, not_true_eq_false, ne_eq, or_false, false_or, or_self, false_and, and_false, or_true, true_or, ite_self, Int.add_sub_cancel, Int.sub_add_cancel, b_lc1, b_lc2, b_lc3, b_lc4, b_lc5, up_eq, up_ei, up_n1, up_n2, W32i, W8i, W16i, W64i, if_ps, if_ng, and_tr, fil_n1, fil_in, fil_out, le_tt, le_ff, lt_tt, lt_ff, eq_tt, eq_ff, M283, k0, ct, wt, fm, c2]
      · rw [show pInt f (w0 f 1) (-9223372036854775808) 9223372036854775807 i = false from decide_eq_false (fun x => c2 x.1), zb1_f]
        simp (disch := omega) only [bcd, true_and, and_true, and_self, if_true, if_false, ite_true, ite_false, reduceIte, Int.reduceEq, Int.reduceNe, Int.reduceLT, Int.reduceLE, Int.reduceAdd, Int.reduceSub, Int.reduceMul, Int.reduceNeg, Int.reduceMod, Int.reduceDiv, Int.reduceToNat, Nat.reduceAdd, Nat.reduceLeDiff, List.length_cons, List.length_nil, not_false_eq_true, not_true_eq_false, ne_eq, or_false, false_or, or_self, false_and, and_false, or_true, true_or, ite_self, Int.add_sub_cancel, Int.sub_add_cancel, b_lc1, b_lc2, b_lc3, b_lc4, b_lc5, up_eq, up_ei, up_n1, up_n2, W32i, W8i, W16i, W64i, if_ps, if_ng, and_tr, fil_n1, fil_in, fil_out, le_tt, le_ff, lt_tt, lt_ff, eq_tt, eq_ff, M283, k0, ct, wt, fm, c2]
    rw [st]
    cases q : pInt f (w0 f 1) (-9223372036854775808) 9223372036854775807 i
    · rw [Bool.false_and, zb1_f]
      exact ⟨fun x => absurd x (by decide), fun _ => N _⟩
    · rw [Bool.true_and, zb1_t]
      exact I
theorem m_outs {S : Sto} {f : F} {sc : Int} (h : MD S f) (mh : MH S f) (g : MFl S f) (hs : S 34 3 = sc) (s0 : 0 ≤ sc ∧ sc ≤ 32) (hM : cM f 0 0 8) (f0 : 0 < fsize f) (A1 : cL f (w0 f 2) 0 8) (Q : ZQ) (y : AV) : ∀ (c i : Nat), (i : Int) + c = nc f (w0 f 2) → (zall (pOuts f (w0 f 2) sc) c i = true → zG Cd 283 (Cd 283 214) [(34, 34), (0, 1), (0, (i : Int)), y] [] S Q = zG Cd 283 (Cd 283 255) [(34, 34), (0, 1), (0, nc f (w0 f 2)), y] [] S Q) ∧ (¬ zall (pOuts f (w0 f 2) sc) c i = true → zG Cd 283 (Cd 283 214) [(34, 34), (0, 1), (0, (i : Int)), y] [] S Q = Q S (0, 0)) := by
  have sz := h.sz
  have i0 := w0_in h.v hM f0 2 (by omega)
  have k0 : S 142 2 = w0 f 2 := g.fl 2 (by omega)
  have ct := h.ct (w0 f 2) (by omega) i0.2
  intro c
  induction c with
  | zero =>
    intro i hi
    refine ⟨fun _ => ?_, fun x => absurd rfl x⟩
    rw [L283_214]
    obtain ⟨R, hR⟩ : ∃ R, zG Cd 283 (Cd 283 255) [(34, 34), (0, 1), (0, (i : Int)), y] [] S Q = R := ⟨_, rfl⟩
    rw [show nc f (w0 f 2) = (i : Int) by omega]
    simp (disch := omega) only [bcd, true_and, and_true, and_self, if_true, if_false, ite_true, ite_false, reduceIte, Int.reduceEq, Int.reduceNe, Int.reduceLT, Int.reduceLE, Int.reduceAdd, Int.reduceSub, Int.reduceMul, Int.reduceNeg, Int.reduceMod, Int.reduceDiv, Int.reduceToNat, Nat.reduceAdd, Nat.reduceLeDiff, List.length_cons, List.length_nil, not_false_eq_true, not_true_eq_false, ne_eq, or_false, false_or, or_self, false_and, and_false, or_true, true_or, ite_self, Int.add_sub_cancel, Int.sub_add_cancel, b_lc1, b_lc2, b_lc3, b_lc4, b_lc5, up_eq, up_ei, up_n1, up_n2, W32i, W8i, W16i, W64i, if_ps, if_ng, and_tr, fil_n1, fil_in, fil_out, le_tt, le_ff, lt_tt, lt_ff, eq_tt, eq_ff, k0, ct, hR]
  | succ c ih =>
    intro i hi
    obtain ⟨a1, a2, a3⟩ := wi_l h.v (by omega) i0.2 A1.1 i (by omega)
    have wt := fun Q => m_within h (w0 f 2) (i : Int) (by omega) i0.2 (by omega) (by omega) Q
    rw [show ((i : Int)).toNat = i by omega] at wt
    have N := fun k => m_no94 g hM h.v sz f0 k y Q
    have I := ih (i + 1) (by omega)
    rw [show ((i + 1 : Nat) : Int) = (i : Int) + 1 by omega] at I
    have io := fun Q => m_isOut h mh (wi f (w0 f 2) i) sc hs s0 (by omega) a2 Q
    rw [zall]
    have st : zG Cd 283 (Cd 283 214) [(34, 34), (0, 1), (0, (i : Int)), y] [] S Q = zG Cd 283 (Cd 283 214) [(34, 34), (0, zb1 (pOuts f (w0 f 2) sc i)), (0, (i : Int) + 1), y] [] S Q := by
      conv => lhs; rw [L283_214]
      by_cases c2 : pOut f (wi f (w0 f 2) i) sc
      · rw [show pOuts f (w0 f 2) sc i = true from decide_eq_true c2, zb1_t]
        simp only [if_pos c2] at io
        simp (disch := omega) only [bcd, true_and, and_true, and_self, if_true, if_false, ite_true, ite_false, reduceIte, Int.reduceEq, Int.reduceNe, Int.reduceLT, Int.reduceLE, Int.reduceAdd, Int.reduceSub, Int.reduceMul, Int.reduceNeg, Int.reduceMod, Int.reduceDiv, Int.reduceToNat, Nat.reduceAdd, Nat.reduceLeDiff, List.length_cons, List.length_nil, not_false_eq_true, not_true_eq_false, ne_eq, or_false, false_or, or_self, false_and, and_false, or_true, true_or, ite_self, Int.add_sub_cancel, Int.sub_add_cancel, b_lc1, b_lc2, b_lc3, b_lc4, b_lc5, up_eq, up_ei, up_n1, up_n2, W32i, W8i, W16i, W64i, if_ps, if_ng, and_tr, fil_n1, fil_in, fil_out, le_tt, le_ff, lt_tt, lt_ff, eq_tt, eq_ff, k0, ct, wt, io]
      · rw [show pOuts f (w0 f 2) sc i = false from decide_eq_false c2, zb1_f]
        simp only [if_neg c2] at io
        simp (disch := omega) only [bcd, true_and, and_true, and_self, if_true, if_false, ite_true, ite_false, reduceIte, Int.reduceEq, Int.reduceNe, Int.reduceLT, Int.reduceLE, Int.reduceAdd, Int.reduceSub, Int.reduceMul, Int.reduceNeg, Int.reduceMod, Int.reduceDiv, Int.reduceToNat, Nat.reduceAdd, Nat.reduceLeDiff, List.length_cons, List.length_nil, not_false_eq_true, not_true_eq_false, ne_eq, or_false, false_or, or_self, false_and, and_false, or_true, true_or, ite_self, Int.add_sub_cancel, Int.sub_add_cancel, b_lc1, b_lc2, b_lc3, b_lc4, b_lc5, up_eq, up_ei, up_n1, up_n2, W32i, W8i, W16i, W64i, if_ps, if_ng, and_tr, fil_n1, fil_in, fil_out, le_tt, le_ff, lt_tt, lt_ff, eq_tt, eq_ff, k0, ct, wt, io]
    rw [st]
    cases q : pOuts f (w0 f 2) sc i
    · rw [Bool.false_and, zb1_f]
      exact ⟨fun x => absurd x (by decide), fun _ => N _⟩
    · rw [Bool.true_and, zb1_t]
      exact I
