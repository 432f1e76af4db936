-- uses: 97
theorem BI.sb {S S' : Sto} {r : Int} (h : BI S) (e : sbf r S S') (hr : r % 512 = 31) (r3 : r ≠ S 109 3) : BI S' := by
  have e1 := e.1 109 (by omega) (by omega) (by omega) (by omega) (by omega)
  have e2 := e.1 30 (by omega) (by omega) (by omega) (by omega) (by omega)
  have b3 := h.hb 3 (by omega) (by omega)
  have e4 := e.1 (S 109 3) (by omega) (fun x => r3 x.symm) (by omega) (by omega) (by omega)
  obtain ⟨h_hb, h_hs, h_nb, h_ns1, h_e3⟩ := h
  apply BI.mk1 <;> (try rw [e1]) <;> (try rw [e2]) <;> (try rw [e4]) <;> assumption
theorem sfr.xb {S S' : Sto} {rs : Int} (h : sfr rs S S') (hr : rs % 512 = 31) : xbf S S' := ⟨fun b a1 a2 a3 a4 a5 a6 a7 a8 => h b (by omega) (by omega) (by omega) (by omega) (by omega) (by omega) (by omega), fun i _ _ _ => by rw [h 33 (by omega) (by omega) (by omega) (by omega) (by omega) (by omega) (by omega)]⟩
theorem pf_xb {S S' : Sto} (h : ∀ c, c ≠ 32 → S' c = S c) : xbf S S' := ⟨fun b a1 a2 a3 a4 a5 a6 a7 a8 => h b (by omega), fun i _ _ _ => by rw [h 33 (by omega)]⟩
/-- from the fee on -/
theorem x_bal408 {S : Sto} {f : F} {sc r1 r2 n1 n2 : Int} {L : Led} {a b c d e g : AV} (h : XS S f sc L) (k1 : S 109 1 = r1) (k2 : S 109 2 = r2) (ne : r1 ≠ r2) (B1 : BG S r1 n1 (gM L f)) (B2 : BG S r2 n2 (gOut f (nc f (w0 f 2)).toNat)) (gp : gpos (gOut f (nc f (w0 f 2)).toNat)) (nn : n2 < 160) : ∃ S' v, (∀ Q : ZQ, zG Cd 15 (Cd 15 408) [(11, 11), (0, 1), a, b, c, d, e, g] [] S Q = Q S' (0, v)) ∧ (∃ T, bfr r2 S T ∧ ∀ c, c ≠ 32 → S' c = T c) ∧ (v = 0 ∨ v = 1) ∧ (v = 1 → ∀ p m, gM L f p m = gO f p m) ∧ (v = 0 → (∀ p m, gM L f p m ≤ 4611686018427387904) → ¬ ∀ p m, gM L f p m = gO f p m) := by
  have k3 : S 113 3 = w0 f 3 := h.s.fl 3 (by omega)
  have a3 := h.t.fd 3 (by omega)
  have fe := h.t.fe
  have vl := fun Q => x_value h.d (w0 f 3) (by omega) a3.2 Q
  simp only [if_pos fe.1] at vl
  obtain ⟨_, fe1, fe2⟩ := fe
  have gp0 := gp 0 0
  have hr1 := B1.hr
  have hr2 := B2.hr
  by_cases ov : zLong (gOut f (nc f (w0 f 2)).toNat 0 0 + (nt f (w0 f 3)))
  · obtain ⟨T, n', R, B, fr, nb⟩ := bg_put (k := 2) (by omega) (by omega) k2 B2 0 0 ((nt f (w0 f 3))) (by omega) (by unfold zLong; omega) (by unfold zLong; omega) (by unfold zLong; omega) nn ov
    unfold zR at R
    have B1' := B1.fr fr hr2 ne
    have k1' : T 109 1 = r1 := by rw [fr.1 _ (by omega) (by omega) (by omega) (by omega)]; exact k1
    have k2' : T 109 2 = r2 := by rw [fr.1 _ (by omega) (by omega) (by omega) (by omega)]; exact k2
    obtain ⟨S', v, rc, ev, fr'⟩ := b_cmp (k := 1) (l := 2) (by omega) (by omega) k1' k2' B1' B
    unfold zR at rc
    by_cases q : v = 0
    · refine ⟨S', 1, fun Q => ?_, ⟨T, fr, fr'⟩, Or.inr rfl, fun _ => ev.mp q, fun x => by omega⟩
      simp (disch := omega) only [bcd, true_and, and_true, and_self, if_true, if_false, ite_true, ite_false, reduceIte, Int.reduceEq, Int.reduceNe, Int.reduceLT, Int.reduceLE, Int.reduceAdd, Int.reduceSub, Int.reduceMul, Int.reduceNeg, Int.reduceMod, Int.reduceDiv, Int.reduceToNat, Nat.reduceAdd, Nat.reduceLeDiff, List.length_cons, List.length_nil, not_false_eq_true, not_true_eq_false, ne_eq, or_false, false_or, or_self, false_and, and_false, or_true, true_or, ite_self, Int.add_sub_cancel, Int.sub_add_cancel, b_lc1, b_lc2, b_lc3, b_lc4, b_lc5, up_eq, up_ei, up_n1, up_n2, W32i, W8i, W16i, W64i, if_ps, if_ng, and_tr, fil_n1, fil_in, fil_out, le_tt, le_ff, lt_tt, lt_ff, eq_tt, eq_ff, M15, M254, k3, vl, R, rc, q]
    · refine ⟨S', 0, fun Q => ?_, ⟨T, fr, fr'⟩, Or.inl rfl, fun x => by omega, fun _ _ x => q (ev.mpr x)⟩
      simp (disch := omega) only [bcd, true_and, and_true, and_self, if_true, if_false, ite_true, ite_false, reduceIte, Int.reduceEq, Int.reduceNe, Int.reduceLT, Int.reduceLE, Int.reduceAdd, Int.reduceSub, Int.reduceMul, Int.reduceNeg, Int.reduceMod, Int.reduceDiv, Int.reduceToNat, Nat.reduceAdd, Nat.reduceLeDiff, List.length_cons, List.length_nil, not_false_eq_true, not_true_eq_false, ne_eq, or_false, false_or, or_self, false_and, and_false, or_true, true_or, ite_self, Int.add_sub_cancel, Int.sub_add_cancel, b_lc1, b_lc2, b_lc3, b_lc4, b_lc5, up_eq, up_ei, up_n1, up_n2, W32i, W8i, W16i, W64i, if_ps, if_ng, and_tr, fil_n1, fil_in, fil_out, le_tt, le_ff, lt_tt, lt_ff, eq_tt, eq_ff, M15, M254, k3, vl, R, rc, q]
  · have p0 := fun Q => bg_put0 (k := 2) (by omega) (by omega) k2 B2 0 0 ((nt f (w0 f 3))) (by omega) (by unfold zLong; omega) (by unfold zLong; omega) (by unfold zLong; omega) ov Q
    unfold zLong at ov
    refine ⟨S, 0, fun Q => ?_, ⟨S, bfr.rf r2 S, fun _ _ => rfl⟩, Or.inl rfl, fun x => by omega, fun _ x y => ?_⟩
    · simp (disch := omega) only [bcd, true_and, and_true, and_self, if_true, if_false, ite_true, ite_false, reduceIte, Int.reduceEq, Int.reduceNe, Int.reduceLT, Int.reduceLE, Int.reduceAdd, Int.reduceSub, Int.reduceMul, Int.reduceNeg, Int.reduceMod, Int.reduceDiv, Int.reduceToNat, Nat.reduceAdd, Nat.reduceLeDiff, List.length_cons, List.length_nil, not_false_eq_true, not_true_eq_false, ne_eq, or_false, false_or, or_self, false_and, and_false, or_true, true_or, ite_self, Int.add_sub_cancel, Int.sub_add_cancel, b_lc1, b_lc2, b_lc3, b_lc4, b_lc5, up_eq, up_ei, up_n1, up_n2, W32i, W8i, W16i, W64i, if_ps, if_ng, and_tr, fil_n1, fil_in, fil_out, le_tt, le_ff, lt_tt, lt_ff, eq_tt, eq_ff, M15, M254, k3, vl, p0]
    · have a := x 0 0
      have b := y 0 0
      have c : gO f 0 0 = gOut f (nc f (w0 f 2)).toNat 0 0 + (nt f (w0 f 3)) := by unfold gO gad; simp
      omega
theorem x_isBal {S : Sto} {f : F} {sc : Int} {L : Led} (h : XS S f sc L) (bi : BI S) (th : there L f = true) : ∃ S' v, zR 15 8 [(11, 11)] S S' (0, v) ∧ xbf S S' ∧ BI S' ∧ (v = 0 ∨ v = 1) ∧ (v = 1 → bal L f ∧ ∃ n, BG S' (S' 109 0) n (gIn L f (nc f (w0 f 0)).toNat)) ∧ (v = 0 → ¬ bal L f) := by
  obtain ⟨t1, t2, t3, t4, t5⟩ := there_1 th
  have t := h.t
  have w := h.w
  have l0 := t.l0
  have l2 := t.l2
  have l5 := t.l5
  obtain ⟨r0, hr0⟩ : ∃ r, S 109 0 = r := ⟨_, rfl⟩
  obtain ⟨r1, hr1⟩ : ∃ r, S 109 1 = r := ⟨_, rfl⟩
  obtain ⟨r2, hr2⟩ : ∃ r, S 109 2 = r := ⟨_, rfl⟩
  obtain ⟨r3, hr3⟩ : ∃ r, S 109 3 = r := ⟨_, rfl⟩
  obtain ⟨rs, hrs⟩ : ∃ r, S 30 1 = r := ⟨_, rfl⟩
  have m0 : r0 % 512 = 31 := by rw [← hr0]; exact bi.hb 0 (by omega) (by omega)
  have m1 : r1 % 512 = 31 := by rw [← hr1]; exact bi.hb 1 (by omega) (by omega)
  have m2 : r2 % 512 = 31 := by rw [← hr2]; exact bi.hb 2 (by omega) (by omega)
  have m3 : r3 % 512 = 31 := by rw [← hr3]; exact bi.hb 3 (by omega) (by omega)
  have ms : rs % 512 = 31 := by rw [← hrs]; exact bi.hs
  have d01 : r0 ≠ r1 := by rw [← hr0, ← hr1]; exact bi.nb 0 1 (by omega) (by omega) (by omega)
  have d02 : r0 ≠ r2 := by rw [← hr0, ← hr2]; exact bi.nb 0 2 (by omega) (by omega) (by omega)
  have d03 : r0 ≠ r3 := by rw [← hr0, ← hr3]; exact bi.nb 0 3 (by omega) (by omega) (by omega)
  have d12 : r1 ≠ r2 := by rw [← hr1, ← hr2]; exact bi.nb 1 2 (by omega) (by omega) (by omega)
  have d13 : r1 ≠ r3 := by rw [← hr1, ← hr3]; exact bi.nb 1 3 (by omega) (by omega) (by omega)
  have d23 : r2 ≠ r3 := by rw [← hr2, ← hr3]; exact bi.nb 2 3 (by omega) (by omega) (by omega)
  have s0 : r0 ≠ rs := by rw [← hr0, ← hrs]; exact bi.ns1 0 (by omega) (by omega)
  have s1 : r1 ≠ rs := by rw [← hr1, ← hrs]; exact bi.ns1 1 (by omega) (by omega)
  have s2 : r2 ≠ rs := by rw [← hr2, ← hrs]; exact bi.ns1 2 (by omega) (by omega)
  have s3 : r3 ≠ rs := by rw [← hr3, ← hrs]; exact bi.ns1 3 (by omega) (by omega)
  -- the bags are emptied
  have c0 := fun Q => b_clear (S := S) (k := 0) (by omega) (by omega) hr0 m0 Q
  have c1 := fun Q => b_clear (S := up S r0 3 0) (k := 1) (r := r1) (by omega) (by omega) (by simp (disch := omega) only [true_and, and_true, and_self, if_true, if_false, ite_true, ite_false, reduceIte, Int.reduceEq, Int.reduceNe, Int.reduceLT, Int.reduceLE, Int.reduceAdd, Int.reduceSub, Int.reduceMul, Int.reduceNeg, Int.reduceMod, Int.reduceDiv, Int.reduceToNat, Nat.reduceAdd, Nat.reduceLeDiff, List.length_cons, List.length_nil, not_false_eq_true, not_true_eq_false, ne_eq, or_false, false_or, or_self, false_and, and_false, or_true, true_or, ite_self, Int.add_sub_cancel, Int.sub_add_cancel, b_lc1, b_lc2, b_lc3, b_lc4, b_lc5, up_eq, up_ei, up_n1, up_n2, W32i, W8i, W16i, W64i, if_ps, if_ng, and_tr, fil_n1, fil_in, fil_out, hr1]) m1 Q
  have c2 := fun Q => b_clear (S := up (up S r0 3 0) r1 3 0) (k := 2) (r := r2) (by omega) (by omega) (by simp (disch := omega) only [true_and, and_true, and_self, if_true, if_false, ite_true, ite_false, reduceIte, Int.reduceEq, Int.reduceNe, Int.reduceLT, Int.reduceLE, Int.reduceAdd, Int.reduceSub, Int.reduceMul, Int.reduceNeg, Int.reduceMod, Int.reduceDiv, Int.reduceToNat, Nat.reduceAdd, Nat.reduceLeDiff, List.length_cons, List.length_nil, not_false_eq_true, not_true_eq_false, ne_eq, or_false, false_or, or_self, false_and, and_false, or_true, true_or, ite_self, Int.add_sub_cancel, Int.sub_add_cancel, b_lc1, b_lc2, b_lc3, b_lc4, b_lc5, up_eq, up_ei, up_n1, up_n2, W32i, W8i, W16i, W64i, if_ps, if_ng, and_tr, fil_n1, fil_in, fil_out, hr2]) m2 Q
  have st1 : ∀ Q : ZQ, zCall Cd 15 8 [(11, 11)] S Q = zG Cd 15 (Cd 15 25) [(11, 11), (0, 1), (0, 0), (9, 0), (9, 0), (9, 0), (9, 0), (9, 0)] [] (up (up (up S r0 3 0) r1 3 0) r2 3 0) Q := by
    intro Q
    simp (disch := omega) only [bcd, true_and, and_true, and_self, if_true, if_false, ite_true, ite_false, reduceIte, Int.reduceEq, Int.reduceNe, Int.reduceLT, Int.reduceLE, Int.reduceAdd, Int.reduceSub, Int.reduceMul, Int.reduceNeg, Int.reduceMod, Int.reduceDiv, Int.reduceToNat, Nat.reduceAdd, Nat.reduceLeDiff, List.length_cons, List.length_nil, not_false_eq_true, not_true_eq_false, ne_eq, or_false, false_or, or_self, false_and, and_false, or_true, true_or, ite_self, Int.add_sub_cancel, Int.sub_add_cancel, b_lc1, b_lc2, b_lc3, b_lc4, b_lc5, up_eq, up_ei, up_n1, up_n2, W32i, W8i, W16i, W64i, if_ps, if_ng, and_tr, fil_n1, fil_in, fil_out, le_tt, le_ff, lt_tt, lt_ff, eq_tt, eq_ff, M15, L15_2, c0, c1, c2]
  have bi1 : BI (up (up (up S r0 3 0) r1 3 0) r2 3 0) := by
    have x1 := bi.fr (bfr_sz (S := S) (r := r0) (v := 0)) m0 (by rw [hr3]; exact d03)
    have x2 := x1.fr (bfr_sz (r := r1) (v := 0)) m1 (by rw [show up S r0 3 0 109 3 = r3 by simp (disch := omega) only [true_and, and_true, and_self, if_true, if_false, ite_true, ite_false, reduceIte, Int.reduceEq, Int.reduceNe, Int.reduceLT, Int.reduceLE, Int.reduceAdd, Int.reduceSub, Int.reduceMul, Int.reduceNeg, Int.reduceMod, Int.reduceDiv, Int.reduceToNat, Nat.reduceAdd, Nat.reduceLeDiff, List.length_cons, List.length_nil, not_false_eq_true, not_true_eq_false, ne_eq, or_false, false_or, or_self, false_and, and_false, or_true, true_or, ite_self, Int.add_sub_cancel, Int.sub_add_cancel, b_lc1, b_lc2, b_lc3, b_lc4, b_lc5, up_eq, up_ei, up_n1, up_n2, W32i, W8i, W16i, W64i, if_ps, if_ng, and_tr, fil_n1, fil_in, fil_out, hr3]]; exact d13)
    exact x2.fr (bfr_sz (r := r2) (v := 0)) m2 (by rw [show up (up S r0 3 0) r1 3 0 109 3 = r3 by simp (disch := omega) only [true_and, and_true, and_self, if_true, if_false, ite_true, ite_false, reduceIte, Int.reduceEq, Int.reduceNe, Int.reduceLT, Int.reduceLE, Int.reduceAdd, Int.reduceSub, Int.reduceMul, Int.reduceNeg, Int.reduceMod, Int.reduceDiv, Int.reduceToNat, Nat.reduceAdd, Nat.reduceLeDiff, List.length_cons, List.length_nil, not_false_eq_true, not_true_eq_false, ne_eq, or_false, false_or, or_self, false_and, and_false, or_true, true_or, ite_self, Int.add_sub_cancel, Int.sub_add_cancel, b_lc1, b_lc2, b_lc3, b_lc4, b_lc5, up_eq, up_ei, up_n1, up_n2, W32i, W8i, W16i, W64i, if_ps, if_ng, and_tr, fil_n1, fil_in, fil_out, hr3]]; exact d23)
  have xb1 : xbf S (up (up (up S r0 3 0) r1 3 0) r2 3 0) := ((bfr_sz.xb m0).tr (bfr_sz.xb m1)).tr (bfr_sz.xb m2)
  have B0 : BG (up (up (up S r0 3 0) r1 3 0) r2 3 0) r0 0 g0 := ((BG_emp m0).fr bfr_sz m1 d01).fr bfr_sz m2 d02
  have B2 : BG (up (up (up S r0 3 0) r1 3 0) r2 3 0) r2 0 g0 := BG_emp m2
  have q0 : up (up (up S r0 3 0) r1 3 0) r2 3 0 109 0 = r0 := by simp (disch := omega) only [true_and, and_true, and_self, if_true, if_false, ite_true, ite_false, reduceIte, Int.reduceEq, Int.reduceNe, Int.reduceLT, Int.reduceLE, Int.reduceAdd, Int.reduceSub, Int.reduceMul, Int.reduceNeg, Int.reduceMod, Int.reduceDiv, Int.reduceToNat, Nat.reduceAdd, Nat.reduceLeDiff, List.length_cons, List.length_nil, not_false_eq_true, not_true_eq_false, ne_eq, or_false, false_or, or_self, false_and, and_false, or_true, true_or, ite_self, Int.add_sub_cancel, Int.sub_add_cancel, b_lc1, b_lc2, b_lc3, b_lc4, b_lc5, up_eq, up_ei, up_n1, up_n2, W32i, W8i, W16i, W64i, if_ps, if_ng, and_tr, fil_n1, fil_in, fil_out, hr0]
  have q1 : up (up (up S r0 3 0) r1 3 0) r2 3 0 109 1 = r1 := by simp (disch := omega) only [true_and, and_true, and_self, if_true, if_false, ite_true, ite_false, reduceIte, Int.reduceEq, Int.reduceNe, Int.reduceLT, Int.reduceLE, Int.reduceAdd, Int.reduceSub, Int.reduceMul, Int.reduceNeg, Int.reduceMod, Int.reduceDiv, Int.reduceToNat, Nat.reduceAdd, Nat.reduceLeDiff, List.length_cons, List.length_nil, not_false_eq_true, not_true_eq_false, ne_eq, or_false, false_or, or_self, false_and, and_false, or_true, true_or, ite_self, Int.add_sub_cancel, Int.sub_add_cancel, b_lc1, b_lc2, b_lc3, b_lc4, b_lc5, up_eq, up_ei, up_n1, up_n2, W32i, W8i, W16i, W64i, if_ps, if_ng, and_tr, fil_n1, fil_in, fil_out, hr1]
  have q2 : up (up (up S r0 3 0) r1 3 0) r2 3 0 109 2 = r2 := by simp (disch := omega) only [true_and, and_true, and_self, if_true, if_false, ite_true, ite_false, reduceIte, Int.reduceEq, Int.reduceNe, Int.reduceLT, Int.reduceLE, Int.reduceAdd, Int.reduceSub, Int.reduceMul, Int.reduceNeg, Int.reduceMod, Int.reduceDiv, Int.reduceToNat, Nat.reduceAdd, Nat.reduceLeDiff, List.length_cons, List.length_nil, not_false_eq_true, not_true_eq_false, ne_eq, or_false, false_or, or_self, false_and, and_false, or_true, true_or, ite_self, Int.add_sub_cancel, Int.sub_add_cancel, b_lc1, b_lc2, b_lc3, b_lc4, b_lc5, up_eq, up_ei, up_n1, up_n2, W32i, W8i, W16i, W64i, if_ps, if_ng, and_tr, fil_n1, fil_in, fil_out, hr2]
  have q3 : up (up (up S r0 3 0) r1 3 0) r2 3 0 109 3 = r3 := by simp (disch := omega) only [true_and, and_true, and_self, if_true, if_false, ite_true, ite_false, reduceIte, Int.reduceEq, Int.reduceNe, Int.reduceLT, Int.reduceLE, Int.reduceAdd, Int.reduceSub, Int.reduceMul, Int.reduceNeg, Int.reduceMod, Int.reduceDiv, Int.reduceToNat, Nat.reduceAdd, Nat.reduceLeDiff, List.length_cons, List.length_nil, not_false_eq_true, not_true_eq_false, ne_eq, or_false, false_or, or_self, false_and, and_false, or_true, true_or, ite_self, Int.add_sub_cancel, Int.sub_add_cancel, b_lc1, b_lc2, b_lc3, b_lc4, b_lc5, up_eq, up_ei, up_n1, up_n2, W32i, W8i, W16i, W64i, if_ps, if_ng, and_tr, fil_n1, fil_in, fil_out, hr3]
  have qs : up (up (up S r0 3 0) r1 3 0) r2 3 0 30 1 = rs := by simp (disch := omega) only [true_and, and_true, and_self, if_true, if_false, ite_true, ite_false, reduceIte, Int.reduceEq, Int.reduceNe, Int.reduceLT, Int.reduceLE, Int.reduceAdd, Int.reduceSub, Int.reduceMul, Int.reduceNeg, Int.reduceMod, Int.reduceDiv, Int.reduceToNat, Nat.reduceAdd, Nat.reduceLeDiff, List.length_cons, List.length_nil, not_false_eq_true, not_true_eq_false, ne_eq, or_false, false_or, or_self, false_and, and_false, or_true, true_or, ite_self, Int.add_sub_cancel, Int.sub_add_cancel, b_lc1, b_lc2, b_lc3, b_lc4, b_lc5, up_eq, up_ei, up_n1, up_n2, W32i, W8i, W16i, W64i, if_ps, if_ng, and_tr, fil_n1, fil_in, fil_out, hrs]
  obtain ⟨T1, hT1⟩ : ∃ T, up (up (up S r0 3 0) r1 3 0) r2 3 0 = T := ⟨_, rfl⟩
  rw [hT1] at st1 bi1 xb1 B0 B2 q0 q1 q2 q3 qs
  have h1 := h.xf xb1
  -- the inputs
  obtain ⟨T2, n2, y, z, st2, B02, fr2, nb2⟩ := x_inS m0 w th (nc f (w0 f 0)).toNat 0 T1 0 (9, 0) (9, 0) h1 q0 B0 (by omega) (by omega)
  rw [show ((0 : Nat) : Int) = 0 by rfl] at st2
  have h2 := h1.xf (fr2.xb m0)
  have bi2 := bi1.fr fr2 m0 (by rw [q3]; exact d03)
  have B22 := B2.fr fr2 m0 (fun x => d02 x.symm)
  have p0 : T2 109 0 = r0 := by rw [fr2.1 _ (by omega) (by omega) (by omega) (by omega)]; exact q0
  have p1 : T2 109 1 = r1 := by rw [fr2.1 _ (by omega) (by omega) (by omega) (by omega)]; exact q1
  have p2 : T2 109 2 = r2 := by rw [fr2.1 _ (by omega) (by omega) (by omega) (by omega)]; exact q2
  have p3 : T2 109 3 = r3 := by rw [fr2.1 _ (by omega) (by omega) (by omega) (by omega)]; exact q3
  have ps : T2 30 1 = rs := by rw [fr2.1 _ (by omega) (by omega) (by omega) (by omega)]; exact qs
  have B32 : BG T2 r3 0 g0 := by
    have e3 := bi2.e3
    rw [p3] at e3
    apply BG.mk1
    case hr => exact m3
    case n1 => omega
    case sz => exact e3
    case ks => apply KS.mk1 <;> intros <;> omega
    case rp =>
      apply RP.mk1
      · intros; omega
      · intros; rfl
    case nz => intros; omega
  have gl : ∀ p m, zLong (gIn L f (nc f (w0 f 0)).toNat p m) := by
    intro p m
    have e := gIn_s w p m (nc f (w0 f 0)).toNat (fun j hj => t1 j (by omega))
    have b := sIn_b w p m (nc f (w0 f 0)).toNat (fun j hj => t1 j (by omega)) (fun j k x y => t2 j k x (by omega))
    have tb := w.totb' p m
    unfold zLong; omega
  obtain ⟨T3, rS, sf, kb, kb1, kbs, Bs⟩ := b_sum p0 p3 ps (by rw [p1]; exact m1) B02 B32 ms s0 s3 gl (by omega)
  unfold zR at rS
  have h3 := h2.xf (sf.xb ms)
  have u0 : T3 109 0 = r0 := by rw [kb 0 (by omega)]; exact p0
  have u2 : T3 109 2 = r2 := by rw [kb 2 (by omega)]; exact p2
  have u3 : T3 109 3 = r3 := by rw [kb 3 (by omega)]; exact p3
  have us : T3 30 1 = r1 := by rw [kbs]; exact p1
  have B03 : BG T3 r0 n2 (gIn L f (nc f (w0 f 0)).toNat) := B02.cg (sf _ (by omega) (by omega) (by omega) (by omega) (by omega) (by omega) (by omega)) (sf _ (by omega) (by omega) (by omega) (by omega) (by omega) (by omega) (by omega)) (sf _ (by omega) (by omega) (by omega) (by omega) (by omega) (by omega) (by omega)) (sf _ (by omega) (by omega) (by omega) (by omega) (by omega) (by omega) (by omega))
  have B23 : BG T3 r2 0 g0 := B22.cg (sf _ (by omega) (by omega) (by omega) (by omega) (by omega) (by omega) (by omega)) (sf _ (by omega) (by omega) (by omega) (by omega) (by omega) (by omega) (by omega)) (sf _ (by omega) (by omega) (by omega) (by omega) (by omega) (by omega) (by omega)) (sf _ (by omega) (by omega) (by omega) (by omega) (by omega) (by omega) (by omega))
  have bi3 : BI T3 := by
    apply BI.mk1
    case hb =>
      intro k a b
      by_cases q : k = 1
      · rw [q, kb1]; exact ms
      · rw [kb k q]; exact bi2.hb k a b
    case hs => rw [us]; exact m1
    case nb =>
      intro j k a b c
      by_cases q : j = 1
      · rw [q, kb1, kb k (by omega), ← ps]; exact fun x => bi2.ns1 k (by omega) c x.symm
      · rw [kb j q]
        by_cases q' : k = 1
        · rw [q', kb1, ← ps]; exact bi2.ns1 j a (by omega)
        · rw [kb k q']; exact bi2.nb j k a b c
    case ns1 =>
      intro k a b
      rw [us]
      by_cases q : k = 1
      · rw [q, kb1]; exact fun x => s1 x.symm
      · rw [kb k q, ← p1]
        by_cases q' : k = 0
        · rw [q']; exact bi2.nb 0 1 (by omega) (by omega) (by omega)
        · exact fun x => bi2.nb 1 k (by omega) (by omega) b x.symm
    case e3 =>
      rw [u3, sf r3 (by omega) (by omega) (by omega) s3 (by omega) (by omega) (by omega), ← p3]
      exact bi2.e3
  -- what is minted
  have k5 : T3 113 5 = w0 f 5 := h3.s.fl 5 (by omega)
  obtain ⟨T4, n4, k4, y4, st4, fr4, e4⟩ := x_mint ms w t th (nc f (w0 f 5)).toNat 0 T3 n2 z h3 kb1 Bs (by omega) (by omega)
  rw [show ((0 : Nat) : Int) = 0 by rfl] at st4
  have h4 := h3.xf (fr4.xb ms)
  have bi4 := bi3.sb fr4 ms (by rw [u3]; exact fun x => s3 x.symm)
  have v0 : T4 109 0 = r0 := by rw [fr4.1 _ (by omega) (by omega) (by omega) (by omega) (by omega)]; exact u0
  have v1 : T4 109 1 = rs := by rw [fr4.1 _ (by omega) (by omega) (by omega) (by omega) (by omega)]; exact kb1
  have v2 : T4 109 2 = r2 := by rw [fr4.1 _ (by omega) (by omega) (by omega) (by omega) (by omega)]; exact u2
  have v3 : T4 109 3 = r3 := by rw [fr4.1 _ (by omega) (by omega) (by omega) (by omega) (by omega)]; exact u3
  have B04 := B03.sbo fr4 ms s0
  have B24 := B23.sbo fr4 ms s2
  have xb4 : xbf S T4 := ((xb1.tr (fr2.xb m0)).tr (sf.xb ms)).tr (fr4.xb ms)
  have st3 : ∀ Q : ZQ, zCall Cd 15 8 [(11, 11)] S Q = zG Cd 15 (Cd 15 282) [(11, 11), (0, zb1 (zall (mck L f) (nc f (w0 f 5)).toNat 0)), (0, w0 f 5), (0, k4), y4, (9, 0), (9, 0), (9, 0)] [] T4 Q := by
    intro Q
    rw [st1, st2, ← st4]
    simp (disch := omega) only [bcd, true_and, and_true, and_self, if_true, if_false, ite_true, ite_false, reduceIte, Int.reduceEq, Int.reduceNe, Int.reduceLT, Int.reduceLE, Int.reduceAdd, Int.reduceSub, Int.reduceMul, Int.reduceNeg, Int.reduceMod, Int.reduceDiv, Int.reduceToNat, Nat.reduceAdd, Nat.reduceLeDiff, List.length_cons, List.length_nil, not_false_eq_true, not_true_eq_false, ne_eq, or_false, false_or, or_self, false_and, and_false, or_true, true_or, ite_self, Int.add_sub_cancel, Int.sub_add_cancel, b_lc1, b_lc2, b_lc3, b_lc4, b_lc5, up_eq, up_ei, up_n1, up_n2, W32i, W8i, W16i, W64i, if_ps, if_ng, and_tr, fil_n1, fil_in, fil_out, le_tt, le_ff, lt_tt, lt_ff, eq_tt, eq_ff, M15, M254, rS, k5]
  by_cases ck : zall (mck L f) (nc f (w0 f 5)).toNat 0 = true
  case neg =>
    refine ⟨T4, 0, fun Q => ?_, xb4, bi4, Or.inl rfl, fun x => by omega, fun _ x => ck x.1⟩
    rw [st3, zb1_0 ck, x_bal0 h4]
  obtain ⟨B14, nb4⟩ := e4 ck
  rw [zb1_1 ck] at st3
  -- what is made
  have k2 : T4 113 2 = w0 f 2 := h4.s.fl 2 (by omega)
  obtain ⟨T5, fr5, e5⟩ := x_outS (a := w0 f 5) m2 t (nc f (w0 f 2)).toNat 0 T4 0 (9, 0) (9, 0) (9, 0) h4 v2 B24 (fun p m => by show 0 ≤ g0 p m ∧ g0 p m < _; unfold g0; omega) (by omega) (by omega)
  rw [show ((0 : Nat) : Int) = 0 by rfl] at e5
  have xb5 := xb4.tr (fr5.xb m2)
  have bi5 := bi4.sb fr5 m2 (by rw [v3]; exact d23)
  have h5 := h4.xf (fr5.xb m2)
  have st5 : ∀ Q : ZQ, zCall Cd 15 8 [(11, 11)] S Q = zG Cd 15 (Cd 15 294) [(11, 11), (0, 1), (0, w0 f 5), (0, w0 f 2), (0, 0), (9, 0), (9, 0), (9, 0)] [] T4 Q := by
    intro Q
    rw [st3]
    simp (disch := omega) only [bcd, true_and, and_true, and_self, if_true, if_false, ite_true, ite_false, reduceIte, Int.reduceEq, Int.reduceNe, Int.reduceLT, Int.reduceLE, Int.reduceAdd, Int.reduceSub, Int.reduceMul, Int.reduceNeg, Int.reduceMod, Int.reduceDiv, Int.reduceToNat, Nat.reduceAdd, Nat.reduceLeDiff, List.length_cons, List.length_nil, not_false_eq_true, not_true_eq_false, ne_eq, or_false, false_or, or_self, false_and, and_false, or_true, true_or, ite_self, Int.add_sub_cancel, Int.sub_add_cancel, b_lc1, b_lc2, b_lc3, b_lc4, b_lc5, up_eq, up_ei, up_n1, up_n2, W32i, W8i, W16i, W64i, if_ps, if_ng, and_tr, fil_n1, fil_in, fil_out, le_tt, le_ff, lt_tt, lt_ff, eq_tt, eq_ff, M15, M254, k2]
  have fe := t.fe
  rcases e5 with ⟨n5, y5, y6, y7, r5, B25, gp5, nb5⟩ | ⟨r5, p, m, pm⟩
  · have B05 := B04.sbo fr5 m2 d02
    have B15 := B14.sbo fr5 m2 (fun x => s2 x.symm)
    have x0 : T5 109 0 = r0 := by rw [fr5.1 _ (by omega) (by omega) (by omega) (by omega) (by omega)]; exact v0
    have x1 : T5 109 1 = rs := by rw [fr5.1 _ (by omega) (by omega) (by omega) (by omega) (by omega)]; exact v1
    have x2 : T5 109 2 = r2 := by rw [fr5.1 _ (by omega) (by omega) (by omega) (by omega) (by omega)]; exact v2
    have x3 : T5 109 3 = r3 := by rw [fr5.1 _ (by omega) (by omega) (by omega) (by omega) (by omega)]; exact v3
    obtain ⟨S', v, rr, ⟨T6, fr6, fr7⟩, vb, va, vz⟩ := x_bal408 (a := (0, w0 f 5)) (b := (0, w0 f 2)) (c := (0, nc f (w0 f 2))) (d := y5) (e := y6) (g := y7) h5 x1 x2 (fun x => s2 x.symm) B15 B25 gp5 (by omega)
    have bi6 := bi5.fr fr6 m2 (by rw [x3]; exact d23)
    have bi7 : BI S' := by
      have f1 := fr7 109 (by omega)
      have f2 := fr7 30 (by omega)
      have f3 := fr7 (T6 109 3) (by have := bi6.hb 3 (by omega) (by omega); omega)
      obtain ⟨bi6_hb, bi6_hs, bi6_nb, bi6_ns1, bi6_e3⟩ := bi6
      apply BI.mk1 <;> (try rw [f1]) <;> (try rw [f2]) <;> (try rw [f3]) <;> assumption
    refine ⟨S', v, fun Q => by rw [st5, r5, rr], (xb5.tr (fr6.xb m2)).tr (pf_xb fr7), bi7, vb, fun x => ⟨⟨ck, va x⟩, n2, ?_⟩, fun x y => vz x (gM_b t w th ck) y.2⟩
    have B06 := B05.fr fr6 m2 d02
    rw [fr7 _ (by omega), fr6.1 _ (by omega) (by omega) (by omega) (by omega), x0]
    exact B06.cg (fr7 _ (by omega)) (fr7 _ (by omega)) (fr7 _ (by omega)) (fr7 _ (by omega))
  · refine ⟨T5, 0, fun Q => by rw [st5, r5], xb5, bi5, Or.inl rfl, fun x => by omega, fun _ x => ?_⟩
    have a := gM_b t w th ck p m
    have b := x.2 p m
    have c : gOut f (nc f (w0 f 2)).toNat p m ≤ gO f p m := by
      unfold gO gad
      have := fe.2.1
      split <;> omega
    omega
