-- uses: 75
/-- X notes where the fields are -/
theorem x_flds {f : F} (sc : Int) (hM : cM f 0 0 8) (hv : fval 1 f) (hz : fsize f ≤ 200) (f0 : 0 < fsize f) (Q : ZQ) : ∀ (c : Nat) (j : Int) (S : Sto), XD S f → j + c = 8 → 0 ≤ j → zG Cd 237 (Cd 237 20) [(33, 33), (0, 0), (0, sc), (0, j)] [] S Q = zG Cd 237 (Cd 237 20) [(33, 33), (0, 0), (0, sc), (0, 8)] [] (fil S 113 j 8 (fun i => wi f 0 i.toNat)) Q := by
  have e8 : nch f 0 = 8 := by unfold nch; rw [if_neg (by have := hM.1; omega), if_pos (Or.inl hM.1)]; exact hM.2.2
  intro c
  induction c with
  | zero =>
    intro j S h hj j0
    rw [fil_nil _ _ _ _ _ (by omega), show j = 8 by omega]
  | succ c ih =>
    intro j S h hj j0
    have wt := fun Q => x_within h 0 j (by omega) f0 (by omega) j0 Q
    have st : zG Cd 237 (Cd 237 20) [(33, 33), (0, 0), (0, sc), (0, j)] [] S Q = zG Cd 237 (Cd 237 20) [(33, 33), (0, 0), (0, sc), (0, j + 1)] [] (up S 113 j (wi f 0 j.toNat)) Q := by
      conv => lhs; rw [L237_20]
      simp (disch := omega) only [bcd, true_and, and_true, and_self, if_true, if_false, ite_true, ite_false, reduceIte, Int.reduceEq, Int.reduceNe, Int.reduceLT, Int.reduceLE, Int.reduceAdd, Int.reduceSub, Int.reduceMul, Int.reduceNeg, Int.reduceMod, Int.reduceDiv, Int.reduceToNat, Nat.reduceAdd, Nat.reduceLeDiff, List.length_cons, List.length_nil, not_false_eq_true, not_true_eq_false, ne_eq, or_false, false_or, or_self, false_and, and_false, or_true, true_or, ite_self, Int.add_sub_cancel, Int.sub_add_cancel, b_lc1, b_lc2, b_lc3, b_lc4, b_lc5, up_eq, up_ei, up_n1, up_n2, W32i, W8i, W16i, W64i, if_ps, if_ng, and_tr, fil_n1, fil_in, fil_out, le_tt, le_ff, lt_tt, lt_ff, eq_tt, eq_ff, wt]
    have h' : XD (up S 113 j (wi f 0 j.toNat)) f := by
      obtain ⟨h_v, h_sz, h_kd, h_va, h_nu, h_ss⟩ := h
      apply XD.mk1 <;> first | assumption | (simp (disch := omega) only [true_and, and_true, and_self, if_true, if_false, ite_true, ite_false, reduceIte, Int.reduceEq, Int.reduceNe, Int.reduceLT, Int.reduceLE, Int.reduceAdd, Int.reduceSub, Int.reduceMul, Int.reduceNeg, Int.reduceMod, Int.reduceDiv, Int.reduceToNat, Nat.reduceAdd, Nat.reduceLeDiff, List.length_cons, List.length_nil, not_false_eq_true, not_true_eq_false, ne_eq, or_false, false_or, or_self, false_and, and_false, or_true, true_or, ite_self, Int.add_sub_cancel, Int.sub_add_cancel, b_lc1, b_lc2, b_lc3, b_lc4, b_lc5, up_eq, up_ei, up_n1, up_n2, W32i, W8i, W16i, W64i, if_ps, if_ng, and_tr, fil_n1, fil_in, fil_out]; assumption)
    rw [st, ih (j + 1) _ h' (by omega) (by omega), fil_cons S 113 j (j + 1) 8 (wi f 0 j.toNat) (fun i => wi f 0 i.toNat) (by omega) rfl rfl]
