-- uses: 96
/-! X.isBalanced: what is made -/
abbrev gpos (g : Int → Int → Int) : Prop := ∀ p m, 0 ≤ g p m ∧ g p m < 9223372036854775808
theorem x_408z {S : Sto} (a b c d e g : AV) (Q : ZQ) : zG Cd 15 (Cd 15 408) [(11, 11), (0, 0), a, b, c, d, e, g] [] S Q = Q S (0, 0) := by
  simp (disch := omega) only [bcd, true_and, and_true, and_self, if_true, if_false, ite_true, ite_false, reduceIte, Int.reduceEq, Int.reduceNe, Int.reduceLT, Int.reduceLE, Int.reduceAdd, Int.reduceSub, Int.reduceMul, Int.reduceNeg, Int.reduceMod, Int.reduceDiv, Int.reduceToNat, Nat.reduceAdd, Nat.reduceLeDiff, List.length_cons, List.length_nil, not_false_eq_true, not_true_eq_false, ne_eq, or_false, false_or, or_self, false_and, and_false, or_true, true_or, ite_self, Int.add_sub_cancel, Int.sub_add_cancel, b_lc1, b_lc2, b_lc3, b_lc4, b_lc5, up_eq, up_ei, up_n1, up_n2, W32i, W8i, W16i, W64i, if_ps, if_ng, and_tr, fil_n1, fil_in, fil_out, le_tt, le_ff, lt_tt, lt_ff, eq_tt, eq_ff, M15]
theorem x_outC {f : F} {sc r n : Int} {L : Led} {g : Int → Int → Int} (hr : r % 512 = 31) (t : TF f sc) (of1 : OF f sc n) (a k : Int) (k0 : 0 ≤ k ∧ k < 8) : ∀ (c j : Nat) (S : Sto) (nn : Int) (y : AV), XS S f sc L → S 109 2 = r → BG S r nn (gacc g (kF f (wi f n 1)) j) → gpos (gacc g (kF f (wi f n 1)) j) → (j : Int) + c = nc f (wi f n 1) → nn + c < 160 → ∃ S', sbf r S S' ∧ ((∃ n' y', (∀ Q : ZQ, zG Cd 15 (Cd 15 334) [(11, 11), (0, 1), (0, a), (0, w0 f 2), (0, k), (0, wi f n 1), (0, (j : Int)), y] [] S Q = zG Cd 15 (Cd 15 402) [(11, 11), (0, 1), (0, a), (0, w0 f 2), (0, k), (0, wi f n 1), (0, nc f (wi f n 1)), y'] [] S' Q) ∧ BG S' r n' (gacc g (kF f (wi f n 1)) (nc f (wi f n 1)).toNat) ∧ gpos (gacc g (kF f (wi f n 1)) (nc f (wi f n 1)).toNat) ∧ n' ≤ nn + c) ∨ ((∀ Q : ZQ, zG Cd 15 (Cd 15 334) [(11, 11), (0, 1), (0, a), (0, w0 f 2), (0, k), (0, wi f n 1), (0, (j : Int)), y] [] S Q = Q S' (0, 0)) ∧ ∃ p m, 9223372036854775808 ≤ gacc g (kF f (wi f n 1)) (nc f (wi f n 1)).toNat p m)) := by
  have l2 := of1.l2
  have a2 := of1.l0
  have s0 := t.s0
  have am0 : ∀ x : Nat, x < (nc f (wi f n 1)).toNat → 0 ≤ (kF f (wi f n 1) x).2.2 := by
    intro x hx
    have := (of1.co x (by omega)).a0 rfl
    show 0 ≤ nt f (wi f (wi f n 1) x + 3)
    omega
  intro c
  induction c with
  | zero =>
    intro j S nn y h hk b gp hj hn
    have mn := fun Q => x_many h.d (wi f n 1) (by omega) a2.2 (by have := l2.1; omega) Q
    have ej : nc f (wi f n 1) = (j : Int) := by omega
    have ej' : (nc f (wi f n 1)).toNat = j := by omega
    refine ⟨S, sbf.rf r S, Or.inl ⟨nn, y, fun Q => ?_, by rw [ej']; exact b, by rw [ej']; exact gp, by omega⟩⟩
    rw [ej] at mn ⊢
    obtain ⟨R, hR⟩ : ∃ R, zG Cd 15 (Cd 15 402) [(11, 11), (0, 1), (0, a), (0, w0 f 2), (0, k), (0, wi f n 1), (0, (j : Int)), y] [] S Q = R := ⟨_, rfl⟩
    rw [L15_334]
    simp (disch := omega) only [bcd, true_and, and_true, and_self, if_true, if_false, ite_true, ite_false, reduceIte, Int.reduceEq, Int.reduceNe, Int.reduceLT, Int.reduceLE, Int.reduceAdd, Int.reduceSub, Int.reduceMul, Int.reduceNeg, Int.reduceMod, Int.reduceDiv, Int.reduceToNat, Nat.reduceAdd, Nat.reduceLeDiff, List.length_cons, List.length_nil, not_false_eq_true, not_true_eq_false, ne_eq, or_false, false_or, or_self, false_and, and_false, or_true, true_or, ite_self, Int.add_sub_cancel, Int.sub_add_cancel, b_lc1, b_lc2, b_lc3, b_lc4, b_lc5, up_eq, up_ei, up_n1, up_n2, W32i, W8i, W16i, W64i, if_ps, if_ng, and_tr, fil_n1, fil_in, fil_out, le_tt, le_ff, lt_tt, lt_ff, eq_tt, eq_ff, mn, hR]
  | succ c ih =>
    intro j S nn y h hk b gp hj hn
    have mn := fun Q => x_many h.d (wi f n 1) (by omega) a2.2 (by have := l2.1; omega) Q
    have cf := of1.co j (by omega)
    have cr := fun Q => x_coR h.d (by omega) a2.2 l2.1 j (by omega) cf Q
    have cfa := cf.a0 rfl
    obtain ⟨c0, n1, n2, n3, po, na, am, _, _, _⟩ := cf
    obtain ⟨p, hp⟩ : ∃ p, nt f (wi f (wi f n 1) j + 1) = p := ⟨_, rfl⟩
    obtain ⟨m, hm⟩ : ∃ m, nt f (wi f (wi f n 1) j + 2) = m := ⟨_, rfl⟩
    obtain ⟨v, hv⟩ : ∃ v, nt f (wi f (wi f n 1) j + 3) = v := ⟨_, rfl⟩
    rw [hp] at po
    rw [hm] at na
    rw [hv] at am cfa
    have gpm := gp p m
    obtain ⟨x1, x2, x3⟩ := xco_1 S f (wi f (wi f n 1) j)
    rw [hp] at x1
    rw [hm] at x2
    rw [hv] at x3
    have xc := xsc.co S f (wi f (wi f n 1) j)
    obtain ⟨T, hT⟩ : ∃ T, xco S f (wi f (wi f n 1) j) = T := ⟨_, rfl⟩
    rw [hT] at x1 x2 x3 xc cr
    have hX := h.xf xc.xb
    have bX := b.sc xc
    have hkX : T 109 2 = r := by rw [xc.2 _ (by decide)]; exact hk
    have gs : gacc g (kF f (wi f n 1)) (j + 1) = gad (gacc g (kF f (wi f n 1)) j) p m v := by
      rw [gacc]; unfold kF; simp only [hp, hm, hv]
    by_cases ov : zLong (gacc g (kF f (wi f n 1)) j p m + v)
    · obtain ⟨S1, n1, R, B, fr, nb⟩ := bg_put (k := 2) (by omega) (by omega) hkX bX p m v (by omega) na (by unfold zLong; omega) (by unfold zLong; omega) (by omega) ov
      unfold zR at R
      unfold zLong at ov
      have hS1 := hX.xf (fr.xb hr)
      have hk1 : S1 109 2 = r := by rw [fr.1 _ (by omega) (by omega) (by omega) (by omega)]; exact hkX
      have fr2 : sbf r S S1 := xc.sb.tr (fr.sb hr)
      rw [← gs] at B
      have gp1 : gpos (gacc g (kF f (wi f n 1)) (j + 1)) := by
        intro q w
        rw [gs]; unfold gad
        have := gp q w
        by_cases z : q = p ∧ w = m
        · rw [if_pos z, z.1, z.2]; omega
        · rw [if_neg z]; omega
      obtain ⟨S', e1, e2⟩ := ih (j + 1) S1 n1 (0, 1) hS1 hk1 B gp1 (by omega) (by omega)
      have st : ∀ Q : ZQ, zG Cd 15 (Cd 15 334) [(11, 11), (0, 1), (0, a), (0, w0 f 2), (0, k), (0, wi f n 1), (0, (j : Int)), y] [] S Q = zG Cd 15 (Cd 15 334) [(11, 11), (0, 1), (0, a), (0, w0 f 2), (0, k), (0, wi f n 1), (0, ((j + 1 : Nat) : Int)), (0, 1)] [] S1 Q := by
        intro Q
        rw [show ((j + 1 : Nat) : Int) = (j : Int) + 1 by omega]
        conv => lhs; rw [L15_334]
        simp (disch := omega) only [bcd, true_and, and_true, and_self, if_true, if_false, ite_true, ite_false, reduceIte, Int.reduceEq, Int.reduceNe, Int.reduceLT, Int.reduceLE, Int.reduceAdd, Int.reduceSub, Int.reduceMul, Int.reduceNeg, Int.reduceMod, Int.reduceDiv, Int.reduceToNat, Nat.reduceAdd, Nat.reduceLeDiff, List.length_cons, List.length_nil, not_false_eq_true, not_true_eq_false, ne_eq, or_false, false_or, or_self, false_and, and_false, or_true, true_or, ite_self, Int.add_sub_cancel, Int.sub_add_cancel, b_lc1, b_lc2, b_lc3, b_lc4, b_lc5, up_eq, up_ei, up_n1, up_n2, W32i, W8i, W16i, W64i, if_ps, if_ng, and_tr, fil_n1, fil_in, fil_out, le_tt, le_ff, lt_tt, lt_ff, eq_tt, eq_ff, mn, cr, x1, x2, x3, R]
      refine ⟨S', fr2.tr e1, ?_⟩
      rcases e2 with ⟨n', y', r2, B2, gp2, nb2⟩ | ⟨r2, pm⟩
      · exact Or.inl ⟨n', y', fun Q => by rw [st]; exact r2 Q, B2, gp2, by omega⟩
      · exact Or.inr ⟨fun Q => by rw [st]; exact r2 Q, pm⟩
    · have p0 := fun Q => bg_put0 (k := 2) (by omega) (by omega) hkX bX p m v (by omega) na (by unfold zLong; omega) (by unfold zLong; omega) ov Q
      unfold zLong at ov
      refine ⟨T, xc.sb, Or.inr ⟨fun Q => ?_, p, m, ?_⟩⟩
      · have mn1 := fun Q => x_many hX.d (wi f n 1) (by omega) a2.2 (by have := l2.1; omega) Q
        have mn2 := fun Q => x_many hX.d (w0 f 2) (by have := t.fd 2 (by omega); omega) (t.fd 2 (by omega)).2 (by have := t.l2.1; omega) Q
        have z4 := fun a b c d e g => x_408z (S := T) a b c d e g Q
        have s1 : zG Cd 15 (Cd 15 334) [(11, 11), (0, 0), (0, a), (0, w0 f 2), (0, k), (0, wi f n 1), (0, (j : Int) + 1), (0, 1)] [] T Q = Q T (0, 0) := by
          have s2 : zG Cd 15 (Cd 15 402) [(11, 11), (0, 0), (0, a), (0, w0 f 2), (0, k), (0, wi f n 1), (0, (j : Int) + 1), (0, 1)] [] T Q = Q T (0, 0) := by
            have s3 : zG Cd 15 (Cd 15 294) [(11, 11), (0, 0), (0, a), (0, w0 f 2), (0, k + 1), (0, wi f n 1), (0, (j : Int) + 1), (0, 1)] [] T Q = Q T (0, 0) := by
              rw [L15_294]
              by_cases z : nc f (w0 f 2) ≤ k + 1 <;> simp (disch := omega) only [bcd, true_and, and_true, and_self, if_true, if_false, ite_true, ite_false, reduceIte, Int.reduceEq, Int.reduceNe, Int.reduceLT, Int.reduceLE, Int.reduceAdd, Int.reduceSub, Int.reduceMul, Int.reduceNeg, Int.reduceMod, Int.reduceDiv, Int.reduceToNat, Nat.reduceAdd, Nat.reduceLeDiff, List.length_cons, List.length_nil, not_false_eq_true, not_true_eq_false, ne_eq, or_false, false_or, or_self, false_and, and_false, or_true, true_or, ite_self, Int.add_sub_cancel, Int.sub_add_cancel, b_lc1, b_lc2, b_lc3, b_lc4, b_lc5, up_eq, up_ei, up_n1, up_n2, W32i, W8i, W16i, W64i, if_ps, if_ng, and_tr, fil_n1, fil_in, fil_out, le_tt, le_ff, lt_tt, lt_ff, eq_tt, eq_ff, mn2, z4]
            rw [← s3]
            simp (disch := omega) only [bcd, true_and, and_true, and_self, if_true, if_false, ite_true, ite_false, reduceIte, Int.reduceEq, Int.reduceNe, Int.reduceLT, Int.reduceLE, Int.reduceAdd, Int.reduceSub, Int.reduceMul, Int.reduceNeg, Int.reduceMod, Int.reduceDiv, Int.reduceToNat, Nat.reduceAdd, Nat.reduceLeDiff, List.length_cons, List.length_nil, not_false_eq_true, not_true_eq_false, ne_eq, or_false, false_or, or_self, false_and, and_false, or_true, true_or, ite_self, Int.add_sub_cancel, Int.sub_add_cancel, b_lc1, b_lc2, b_lc3, b_lc4, b_lc5, up_eq, up_ei, up_n1, up_n2, W32i, W8i, W16i, W64i, if_ps, if_ng, and_tr, fil_n1, fil_in, fil_out, le_tt, le_ff, lt_tt, lt_ff, eq_tt, eq_ff, M15]
          rw [L15_334]
          by_cases z : nc f (wi f n 1) ≤ (j : Int) + 1 <;> simp (disch := omega) only [bcd, true_and, and_true, and_self, if_true, if_false, ite_true, ite_false, reduceIte, Int.reduceEq, Int.reduceNe, Int.reduceLT, Int.reduceLE, Int.reduceAdd, Int.reduceSub, Int.reduceMul, Int.reduceNeg, Int.reduceMod, Int.reduceDiv, Int.reduceToNat, Nat.reduceAdd, Nat.reduceLeDiff, List.length_cons, List.length_nil, not_false_eq_true, not_true_eq_false, ne_eq, or_false, false_or, or_self, false_and, and_false, or_true, true_or, ite_self, Int.add_sub_cancel, Int.sub_add_cancel, b_lc1, b_lc2, b_lc3, b_lc4, b_lc5, up_eq, up_ei, up_n1, up_n2, W32i, W8i, W16i, W64i, if_ps, if_ng, and_tr, fil_n1, fil_in, fil_out, le_tt, le_ff, lt_tt, lt_ff, eq_tt, eq_ff, mn1, s2]
        rw [← s1]
        conv => lhs; rw [L15_334]
        simp (disch := omega) only [bcd, true_and, and_true, and_self, if_true, if_false, ite_true, ite_false, reduceIte, Int.reduceEq, Int.reduceNe, Int.reduceLT, Int.reduceLE, Int.reduceAdd, Int.reduceSub, Int.reduceMul, Int.reduceNeg, Int.reduceMod, Int.reduceDiv, Int.reduceToNat, Nat.reduceAdd, Nat.reduceLeDiff, List.length_cons, List.length_nil, not_false_eq_true, not_true_eq_false, ne_eq, or_false, false_or, or_self, false_and, and_false, or_true, true_or, ite_self, Int.add_sub_cancel, Int.sub_add_cancel, b_lc1, b_lc2, b_lc3, b_lc4, b_lc5, up_eq, up_ei, up_n1, up_n2, W32i, W8i, W16i, W64i, if_ps, if_ng, and_tr, fil_n1, fil_in, fil_out, le_tt, le_ff, lt_tt, lt_ff, eq_tt, eq_ff, mn, cr, x1, x2, x3, p0]
      · have mo := gacc_mono (k := kF f (wi f n 1)) (g := g) p m (j + 1) ((nc f (wi f n 1)).toNat - (j + 1)) (fun x hx => am0 x (by omega))
        rw [show j + 1 + ((nc f (wi f n 1)).toNat - (j + 1)) = (nc f (wi f n 1)).toNat by omega] at mo
        have e : gacc g (kF f (wi f n 1)) (j + 1) p m = gacc g (kF f (wi f n 1)) j p m + v := by rw [gs]; unfold gad; simp
        omega
theorem gOut_mono {f : F} {sc : Int} (t : TF f sc) (p m : Int) : ∀ (d i : Nat), (i : Int) + d ≤ nc f (w0 f 2) → gOut f i p m ≤ gOut f (i + d) p m := by
  intro d
  induction d with
  | zero => intro i _; exact Int.le_refl _
  | succ d ih =>
    intro i hi
    have a := ih i (by omega)
    have of1 := t.of (i + d) (by omega)
    have b := gacc_mono (k := kF f (wi f (wi f (w0 f 2) (i + d)) 1)) (g := gOut f (i + d)) p m 0 (nc f (wi f (wi f (w0 f 2) (i + d)) 1)).toNat (fun x hx => by
      have := (of1.co x (by omega)).a0 rfl
      show 0 ≤ nt f (wi f (wi f (wi f (w0 f 2) (i + d)) 1) x + 3)
      omega)
    rw [show 0 + (nc f (wi f (wi f (w0 f 2) (i + d)) 1)).toNat = (nc f (wi f (wi f (w0 f 2) (i + d)) 1)).toNat by omega, gacc] at b
    rw [show i + (d + 1) = (i + d) + 1 by omega, gOut]
    omega
theorem x_outS {f : F} {sc r a : Int} {L : Led} (hr : r % 512 = 31) (t : TF f sc) : ∀ (c i : Nat) (S : Sto) (nn : Int) (y5 y6 y7 : AV), XS S f sc L → S 109 2 = r → BG S r nn (gOut f i) → gpos (gOut f i) → (i : Int) + c = nc f (w0 f 2) → nn + 8 * c < 160 → ∃ S', sbf r S S' ∧ ((∃ n' y5' y6' y7', (∀ Q : ZQ, zG Cd 15 (Cd 15 294) [(11, 11), (0, 1), (0, a), (0, w0 f 2), (0, (i : Int)), y5, y6, y7] [] S Q = zG Cd 15 (Cd 15 408) [(11, 11), (0, 1), (0, a), (0, w0 f 2), (0, nc f (w0 f 2)), y5', y6', y7'] [] S' Q) ∧ BG S' r n' (gOut f (nc f (w0 f 2)).toNat) ∧ gpos (gOut f (nc f (w0 f 2)).toNat) ∧ n' ≤ nn + 8 * c) ∨ ((∀ Q : ZQ, zG Cd 15 (Cd 15 294) [(11, 11), (0, 1), (0, a), (0, w0 f 2), (0, (i : Int)), y5, y6, y7] [] S Q = Q S' (0, 0)) ∧ ∃ p m, 9223372036854775808 ≤ gOut f (nc f (w0 f 2)).toNat p m)) := by
  have l2 := t.l2
  have a2 := t.fd 2 (by omega)
  intro c
  induction c with
  | zero =>
    intro i S nn y5 y6 y7 h hk b gp hi hn
    have mn := fun Q => x_many h.d (w0 f 2) (by omega) a2.2 (by have := l2.1; omega) Q
    have ei : nc f (w0 f 2) = (i : Int) := by omega
    have ei' : (nc f (w0 f 2)).toNat = i := by omega
    refine ⟨S, sbf.rf r S, Or.inl ⟨nn, y5, y6, y7, fun Q => ?_, by rw [ei']; exact b, by rw [ei']; exact gp, by omega⟩⟩
    rw [ei] at mn ⊢
    obtain ⟨R, hR⟩ : ∃ R, zG Cd 15 (Cd 15 408) [(11, 11), (0, 1), (0, a), (0, w0 f 2), (0, (i : Int)), y5, y6, y7] [] S Q = R := ⟨_, rfl⟩
    rw [L15_294]
    simp (disch := omega) only [bcd, true_and, and_true, and_self, if_true, if_false, ite_true, ite_false, reduceIte, Int.reduceEq, Int.reduceNe, Int.reduceLT, Int.reduceLE, Int.reduceAdd, Int.reduceSub, Int.reduceMul, Int.reduceNeg, Int.reduceMod, Int.reduceDiv, Int.reduceToNat, Nat.reduceAdd, Nat.reduceLeDiff, List.length_cons, List.length_nil, not_false_eq_true, not_true_eq_false, ne_eq, or_false, false_or, or_self, false_and, and_false, or_true, true_or, ite_self, Int.add_sub_cancel, Int.sub_add_cancel, b_lc1, b_lc2, b_lc3, b_lc4, b_lc5, up_eq, up_ei, up_n1, up_n2, W32i, W8i, W16i, W64i, if_ps, if_ng, and_tr, fil_n1, fil_in, fil_out, le_tt, le_ff, lt_tt, lt_ff, eq_tt, eq_ff, mn, hR]
  | succ c ih =>
    intro i S nn y5 y6 y7 h hk b gp hi hn
    have mn := fun Q => x_many h.d (w0 f 2) (by omega) a2.2 (by have := l2.1; omega) Q
    have of1 := t.of i (by omega)
    have n0 := of1.n0
    have nk := of1.nk
    have ol := of1.l2
    have wa := wi_l t.v (by omega) a2.2 l2.1 i (by omega)
    have w1 := fun Q => x_within h.d (w0 f 2) (i : Int) (by omega) a2.2 (by omega) (by omega) Q
    rw [show ((i : Int)).toNat = i by omega] at w1
    have w2 := fun Q => x_within h.d ((wi f (w0 f 2) i)) 1 (by omega) n0.2 (by omega) (by omega) Q
    rw [show (1 : Int).toNat = 1 by rfl] at w2
    obtain ⟨S1, fr1, e1⟩ := x_outC (a := a) (k := (i : Int)) (g := gOut f i) hr t of1 (by omega) (nc f (wi f ((wi f (w0 f 2) i)) 1)).toNat 0 S nn y7 h hk b gp (by omega) (by omega)
    have st : ∀ Q : ZQ, zG Cd 15 (Cd 15 294) [(11, 11), (0, 1), (0, a), (0, w0 f 2), (0, (i : Int)), y5, y6, y7] [] S Q = zG Cd 15 (Cd 15 334) [(11, 11), (0, 1), (0, a), (0, w0 f 2), (0, (i : Int)), (0, wi f ((wi f (w0 f 2) i)) 1), (0, 0), y7] [] S Q := by
      intro Q
      rw [L15_294]
      simp (disch := omega) only [bcd, true_and, and_true, and_self, if_true, if_false, ite_true, ite_false, reduceIte, Int.reduceEq, Int.reduceNe, Int.reduceLT, Int.reduceLE, Int.reduceAdd, Int.reduceSub, Int.reduceMul, Int.reduceNeg, Int.reduceMod, Int.reduceDiv, Int.reduceToNat, Nat.reduceAdd, Nat.reduceLeDiff, List.length_cons, List.length_nil, not_false_eq_true, not_true_eq_false, ne_eq, or_false, false_or, or_self, false_and, and_false, or_true, true_or, ite_self, Int.add_sub_cancel, Int.sub_add_cancel, b_lc1, b_lc2, b_lc3, b_lc4, b_lc5, up_eq, up_ei, up_n1, up_n2, W32i, W8i, W16i, W64i, if_ps, if_ng, and_tr, fil_n1, fil_in, fil_out, le_tt, le_ff, lt_tt, lt_ff, eq_tt, eq_ff, mn, w1, w2]
    have hS1 := h.xf (fr1.xb hr)
    have hk1 : S1 109 2 = r := by rw [fr1.1 _ (by omega) (by omega) (by omega) (by omega) (by omega)]; exact hk
    rcases e1 with ⟨n', y', r1, B1, gp1, nb1⟩ | ⟨r1, p, m, pm⟩
    · have B1' : BG S1 r n' (gOut f (i + 1)) := by rw [gOut]; exact B1
      have gp1' : gpos (gOut f (i + 1)) := by rw [gOut]; exact gp1
      obtain ⟨S', fr2, e2⟩ := ih (i + 1) S1 n' (0, wi f ((wi f (w0 f 2) i)) 1) (0, nc f (wi f ((wi f (w0 f 2) i)) 1)) y' hS1 hk1 B1' gp1' (by omega) (by omega)
      have s2 : ∀ Q : ZQ, zG Cd 15 (Cd 15 294) [(11, 11), (0, 1), (0, a), (0, w0 f 2), (0, (i : Int)), y5, y6, y7] [] S Q = zG Cd 15 (Cd 15 294) [(11, 11), (0, 1), (0, a), (0, w0 f 2), (0, ((i + 1 : Nat) : Int)), (0, wi f ((wi f (w0 f 2) i)) 1), (0, nc f (wi f ((wi f (w0 f 2) i)) 1)), y'] [] S1 Q := by
        intro Q
        have r1 := r1 Q
        rw [show ((0 : Nat) : Int) = 0 by rfl] at r1
        rw [st, r1, show ((i + 1 : Nat) : Int) = (i : Int) + 1 by omega]
        simp (disch := omega) only [bcd, true_and, and_true, and_self, if_true, if_false, ite_true, ite_false, reduceIte, Int.reduceEq, Int.reduceNe, Int.reduceLT, Int.reduceLE, Int.reduceAdd, Int.reduceSub, Int.reduceMul, Int.reduceNeg, Int.reduceMod, Int.reduceDiv, Int.reduceToNat, Nat.reduceAdd, Nat.reduceLeDiff, List.length_cons, List.length_nil, not_false_eq_true, not_true_eq_false, ne_eq, or_false, false_or, or_self, false_and, and_false, or_true, true_or, ite_self, Int.add_sub_cancel, Int.sub_add_cancel, b_lc1, b_lc2, b_lc3, b_lc4, b_lc5, up_eq, up_ei, up_n1, up_n2, W32i, W8i, W16i, W64i, if_ps, if_ng, and_tr, fil_n1, fil_in, fil_out, le_tt, le_ff, lt_tt, lt_ff, eq_tt, eq_ff, M15]
      refine ⟨S', fr1.tr fr2, ?_⟩
      rcases e2 with ⟨n2, z5, z6, z7, r2, B2, gp2, nb2⟩ | ⟨r2, pm⟩
      · exact Or.inl ⟨n2, z5, z6, z7, fun Q => by rw [s2]; exact r2 Q, B2, gp2, by omega⟩
      · exact Or.inr ⟨fun Q => by rw [s2]; exact r2 Q, pm⟩
    · refine ⟨S1, fr1, Or.inr ⟨fun Q => ?_, p, m, ?_⟩⟩
      · have r1 := r1 Q
        rw [show ((0 : Nat) : Int) = 0 by rfl] at r1
        rw [st, r1]
      · have mo := gOut_mono t p m c (i + 1) (by omega)
        rw [show i + 1 + c = (nc f (w0 f 2)).toNat by omega, gOut] at mo
        omega
