-- uses: 99 95
/-! M.isBalanced -/
def sat (x : Int) : Int := if x ≤ 4611686018427387904 then x else 4611686018427387905
def gsat (g : Int → Int → Int) : Int → Int → Int := fun p m => sat (g p m)
theorem m_added (S : Sto) (Q : ZQ) (a b : Int) (ha : 0 ≤ a) (hb : 0 ≤ b ∧ b ≤ 4611686018427387904) : zCall Cd 299 4 [(1, sat a), (1, b)] S Q = Q S (1, sat (a + b)) := by
  unfold sat
  by_cases q : a ≤ 4611686018427387904
  · rw [if_pos q]
    by_cases z : a + b ≤ 4611686018427387904
    · rw [if_pos z]
      simp (disch := omega) only [bcd, true_and, and_true, and_self, if_true, if_false, ite_true, ite_false, reduceIte, Int.reduceEq, Int.reduceNe, Int.reduceLT, Int.reduceLE, Int.reduceAdd, Int.reduceSub, Int.reduceMul, Int.reduceNeg, Int.reduceMod, Int.reduceDiv, Int.reduceToNat, Nat.reduceAdd, Nat.reduceLeDiff, List.length_cons, List.length_nil, not_false_eq_true, not_true_eq_false, ne_eq, or_false, false_or, or_self, false_and, and_false, or_true, true_or, ite_self, Int.add_sub_cancel, Int.sub_add_cancel, b_lc1, b_lc2, b_lc3, b_lc4, b_lc5, up_eq, up_ei, up_n1, up_n2, W32i, W8i, W16i, W64i, if_ps, if_ng, and_tr, fil_n1, fil_in, fil_out, le_tt, le_ff, lt_tt, lt_ff, eq_tt, eq_ff, M299]
    · rw [if_neg z]
      simp (disch := omega) only [bcd, true_and, and_true, and_self, if_true, if_false, ite_true, ite_false, reduceIte, Int.reduceEq, Int.reduceNe, Int.reduceLT, Int.reduceLE, Int.reduceAdd, Int.reduceSub, Int.reduceMul, Int.reduceNeg, Int.reduceMod, Int.reduceDiv, Int.reduceToNat, Nat.reduceAdd, Nat.reduceLeDiff, List.length_cons, List.length_nil, not_false_eq_true, not_true_eq_false, ne_eq, or_false, false_or, or_self, false_and, and_false, or_true, true_or, ite_self, Int.add_sub_cancel, Int.sub_add_cancel, b_lc1, b_lc2, b_lc3, b_lc4, b_lc5, up_eq, up_ei, up_n1, up_n2, W32i, W8i, W16i, W64i, if_ps, if_ng, and_tr, fil_n1, fil_in, fil_out, le_tt, le_ff, lt_tt, lt_ff, eq_tt, eq_ff, M299]
  · rw [if_neg q, if_neg (by omega)]
    simp (disch := omega) only [bcd, true_and, and_true, and_self, if_true, if_false, ite_true, ite_false, reduceIte, Int.reduceEq, Int.reduceNe, Int.reduceLT, Int.reduceLE, Int.reduceAdd, Int.reduceSub, Int.reduceMul, Int.reduceNeg, Int.reduceMod, Int.reduceDiv, Int.reduceToNat, Nat.reduceAdd, Nat.reduceLeDiff, List.length_cons, List.length_nil, not_false_eq_true, not_true_eq_false, ne_eq, or_false, false_or, or_self, false_and, and_false, or_true, true_or, ite_self, Int.add_sub_cancel, Int.sub_add_cancel, b_lc1, b_lc2, b_lc3, b_lc4, b_lc5, up_eq, up_ei, up_n1, up_n2, W32i, W8i, W16i, W64i, if_ps, if_ng, and_tr, fil_n1, fil_in, fil_out, le_tt, le_ff, lt_tt, lt_ff, eq_tt, eq_ff, M299]
theorem gsat_up {g : Int → Int → Int} {p m v : Int} : gup (gsat g) p m (sat (g p m + v)) = gsat (gad g p m v) := by
  funext q w
  unfold gup gsat gad
  split
  · rename_i x; rw [x.1, x.2]
  · rw [Int.add_zero]
theorem m_mintC {f : F} {sc : Int} {L : Led} {gi : Int → Int → Int} (t : TF f sc) : ∀ (c i : Nat) (S : Sto) (nn : Int) (y2 y3 : AV), MT S f sc L → MI S f → MS S nn gi g0 (gacc g0 (kF f (w0 f 5)) i) → (i : Int) + c = nc f (w0 f 5) → nn + c < 144 → ∃ S' n' y2' y3', (∀ Q : ZQ, zG Cd 296 (Cd 296 6) [(34, 34), (0, (i : Int)), y2, y3, (9, 0), (9, 0), (9, 0)] [] S Q = zG Cd 296 (Cd 296 75) [(34, 34), (0, nc f (w0 f 5)), y2', y3', (9, 0), (9, 0), (9, 0)] [] S' Q) ∧ MS S' n' gi g0 (gacc g0 (kF f (w0 f 5)) (nc f (w0 f 5)).toNat) ∧ sufr S S' ∧ n' ≤ nn + c := by
  have l5 := t.l5
  have a5 := t.fd 5 (by omega)
  have sz := t.sz
  have s0 := t.s0
  have mcs := fun i hi => t.mc i hi
  intro c
  induction c with
  | zero =>
    intro i S nn y2 y3 h mi b hi hn
    have k5 : S 142 5 = w0 f 5 := h.s.fl 5 (by omega)
    have ct := h.d.ct (w0 f 5) (by omega) a5.2
    refine ⟨S, nn, y2, y3, fun Q => ?_, by rw [show (nc f (w0 f 5)).toNat = i by omega]; exact b, sufr.rf S, by omega⟩
    rw [show nc f (w0 f 5) = (i : Int) by omega] at ct ⊢
    obtain ⟨R, hR⟩ : ∃ R, zG Cd 296 (Cd 296 75) [(34, 34), (0, (i : Int)), y2, y3, (9, 0), (9, 0), (9, 0)] [] S Q = R := ⟨_, rfl⟩
    rw [L296_6]
    simp (disch := omega) only [bcd, true_and, and_true, and_self, if_true, if_false, ite_true, ite_false, reduceIte, Int.reduceEq, Int.reduceNe, Int.reduceLT, Int.reduceLE, Int.reduceAdd, Int.reduceSub, Int.reduceMul, Int.reduceNeg, Int.reduceMod, Int.reduceDiv, Int.reduceToNat, Nat.reduceAdd, Nat.reduceLeDiff, List.length_cons, List.length_nil, not_false_eq_true, not_true_eq_false, ne_eq, or_false, false_or, or_self, false_and, and_false, or_true, true_or, ite_self, Int.add_sub_cancel, Int.sub_add_cancel, b_lc1, b_lc2, b_lc3, b_lc4, b_lc5, up_eq, up_ei, up_n1, up_n2, W32i, W8i, W16i, W64i, if_ps, if_ng, and_tr, fil_n1, fil_in, fil_out, le_tt, le_ff, lt_tt, lt_ff, eq_tt, eq_ff, k5, ct, hR]
  | succ c ih =>
    intro i S nn y2 y3 h mi b hi hn
    have k5 : S 142 5 = w0 f 5 := h.s.fl 5 (by omega)
    have ct := h.d.ct (w0 f 5) (by omega) a5.2
    have cf := t.mc i (by omega)
    obtain ⟨c0, n1, n2, n3, po, na, am, _, _, _⟩ := cf
    have wa := wi_l t.v (by omega) a5.2 l5.1 i (by omega)
    have wt := fun Q => m_within h.d (w0 f 5) (i : Int) (by omega) a5.2 (by omega) (by omega) Q
    rw [show ((i : Int)).toNat = i by omega] at wt
    have tg1 := h.d.tg (wi f (w0 f 5) i + 1) (by omega) (by omega)
    have tg2 := h.d.tg (wi f (w0 f 5) i + 2) (by omega) (by omega)
    obtain ⟨p, hp⟩ : ∃ p, nt f (wi f (w0 f 5) i + 1) = p := ⟨_, rfl⟩
    obtain ⟨m, hm⟩ : ∃ m, nt f (wi f (w0 f 5) i + 2) = m := ⟨_, rfl⟩
    obtain ⟨v, hv⟩ : ∃ v, nt f (wi f (w0 f 5) i + 3) = v := ⟨_, rfl⟩
    rw [hp] at po tg1
    rw [hm] at na tg2
    obtain ⟨S1, n1, k, R, B, nb1, nb2, k0, k1, kP, kN, fr, kk⟩ := m_sumOf b p m (by omega) na (by omega)
    unfold zR at R
    have h1 := h.su fr
    have tg3 := h1.d.tg (wi f (w0 f 5) i + 3) (by omega) (by omega)
    rw [hv] at tg3
    have n1b := B.n1
    have gz : gacc g0 (kF f (w0 f 5)) i p m = 0 := gacc_no i (fun j hj e => by
      have := kF_ne mcs j i hj (by omega)
      unfold kF at this e
      simp only [hp, hm] at this e
      exact this e)
    have gs : gacc g0 (kF f (w0 f 5)) (i + 1) = gup (gacc g0 (kF f (w0 f 5)) i) p m v := by
      rw [gacc, gad_up]; unfold kF; simp only [hp, hm, hv]
      rw [show gacc g0 (fun j => (nt f (wi f (w0 f 5) j + 1), nt f (wi f (w0 f 5) j + 2), nt f (wi f (w0 f 5) j + 3))) i p m = 0 from gz, Int.zero_add]
    have B2 := B.setM (v := v) k0 k1
    rw [kP, kN, ← gs] at B2
    have fr2 : sufr S (up S1 149 k v) := fr.tr (sufr_row (by omega))
    obtain ⟨S', n', z2, z3, r2, B3, fr3, nb3⟩ := ih (i + 1) _ n1 (0, wi f (w0 f 5) i) (0, k) (h.su fr2) (mi.su fr2) B2 (by omega) (by omega)
    refine ⟨S', n', z2, z3, fun Q => ?_, B3, fr2.tr fr3, by omega⟩
    have r2 := r2 Q
    rw [show ((i + 1 : Nat) : Int) = (i : Int) + 1 by omega] at r2
    rw [← r2]
    conv => lhs; rw [L296_6]
    simp (disch := omega) only [bcd, true_and, and_true, and_self, if_true, if_false, ite_true, ite_false, reduceIte, Int.reduceEq, Int.reduceNe, Int.reduceLT, Int.reduceLE, Int.reduceAdd, Int.reduceSub, Int.reduceMul, Int.reduceNeg, Int.reduceMod, Int.reduceDiv, Int.reduceToNat, Nat.reduceAdd, Nat.reduceLeDiff, List.length_cons, List.length_nil, not_false_eq_true, not_true_eq_false, ne_eq, or_false, false_or, or_self, false_and, and_false, or_true, true_or, ite_self, Int.add_sub_cancel, Int.sub_add_cancel, b_lc1, b_lc2, b_lc3, b_lc4, b_lc5, up_eq, up_ei, up_n1, up_n2, W32i, W8i, W16i, W64i, if_ps, if_ng, and_tr, fil_n1, fil_in, fil_out, le_tt, le_ff, lt_tt, lt_ff, eq_tt, eq_ff, k5, ct, wt, tg1, tg2, R, tg3]
def gOu (f : F) (g : Int → Int → Int) : Nat → Int → Int → Int
  | 0 => g
  | i + 1 => gacc (gOu f g i) (kF f (wi f ((wi f (w0 f 2) i)) 1)) (nc f (wi f ((wi f (w0 f 2) i)) 1)).toNat
theorem gOu_add (f : F) (g : Int → Int → Int) (p m : Int) : ∀ i, gOu f g i p m = g p m + gOut f i p m := by
  intro i
  induction i with
  | zero => unfold gOu gOut g0; omega
  | succ i ih =>
    have x := gacc_add (gOu f g i) (kF f (wi f ((wi f (w0 f 2) i)) 1)) p m (nc f (wi f ((wi f (w0 f 2) i)) 1)).toNat
    have y := gacc_add (gOut f i) (kF f (wi f ((wi f (w0 f 2) i)) 1)) p m (nc f (wi f ((wi f (w0 f 2) i)) 1)).toNat
    rw [gOu, gOut, x, y, ih]; omega
theorem m_outC {f : F} {sc n : Int} {L : Led} {gi gm g : Int → Int → Int} (t : TF f sc) (of1 : OF f sc n) (bs a : Int) : ∀ (c j : Nat) (S : Sto) (nn : Int) (y5 y6 : AV), MT S f sc L → MI S f → MS S nn gi (gsat (gacc g (kF f (wi f n 1)) j)) gm → (∀ p m, 0 ≤ gacc g (kF f (wi f n 1)) j p m) → (j : Int) + c = nc f (wi f n 1) → nn + c < 144 → ∃ S' n' y5' y6', (∀ Q : ZQ, zG Cd 296 (Cd 296 136) [(34, 34), (0, bs), (0, a), (0, wi f n 1), (0, (j : Int)), y5, y6] [] S Q = zG Cd 296 (Cd 296 213) [(34, 34), (0, bs), (0, a), (0, wi f n 1), (0, nc f (wi f n 1)), y5', y6'] [] S' Q) ∧ MS S' n' gi (gsat (gacc g (kF f (wi f n 1)) (nc f (wi f n 1)).toNat)) gm ∧ (∀ p m, 0 ≤ gacc g (kF f (wi f n 1)) (nc f (wi f n 1)).toNat p m) ∧ sufr S S' ∧ n' ≤ nn + c := by
  have l2 := of1.l2
  have a2 := of1.l0
  have sz := t.sz
  have s0 := t.s0
  intro c
  induction c with
  | zero =>
    intro j S nn y5 y6 h mi b gp hj hn
    have ct := h.d.ct (wi f n 1) (by omega) a2.2
    have ej' : (nc f (wi f n 1)).toNat = j := by omega
    refine ⟨S, nn, y5, y6, fun Q => ?_, by rw [ej']; exact b, by rw [ej']; exact gp, sufr.rf S, by omega⟩
    rw [show nc f (wi f n 1) = (j : Int) by omega] at ct ⊢
    obtain ⟨R, hR⟩ : ∃ R, zG Cd 296 (Cd 296 213) [(34, 34), (0, bs), (0, a), (0, wi f n 1), (0, (j : Int)), y5, y6] [] S Q = R := ⟨_, rfl⟩
    rw [L296_136]
    simp (disch := omega) only [bcd, true_and, and_true, and_self, if_true, if_false, ite_true, ite_false, reduceIte, Int.reduceEq, Int.reduceNe, Int.reduceLT, Int.reduceLE, Int.reduceAdd, Int.reduceSub, Int.reduceMul, Int.reduceNeg, Int.reduceMod, Int.reduceDiv, Int.reduceToNat, Nat.reduceAdd, Nat.reduceLeDiff, List.length_cons, List.length_nil, not_false_eq_true, not_true_eq_false, ne_eq, or_false, false_or, or_self, false_and, and_false, or_true, true_or, ite_self, Int.add_sub_cancel, Int.sub_add_cancel, b_lc1, b_lc2, b_lc3, b_lc4, b_lc5, up_eq, up_ei, up_n1, up_n2, W32i, W8i, W16i, W64i, if_ps, if_ng, and_tr, fil_n1, fil_in, fil_out, le_tt, le_ff, lt_tt, lt_ff, eq_tt, eq_ff, ct, hR]
  | succ c ih =>
    intro j S nn y5 y6 h mi b gp hj hn
    have ct := h.d.ct (wi f n 1) (by omega) a2.2
    have cf := of1.co j (by omega)
    have cfa := cf.a0 rfl
    obtain ⟨c0, n1, n2, n3, po, na, am, _, _, _⟩ := cf
    have wa := wi_l t.v (by omega) a2.2 l2.1 j (by omega)
    have wt := fun Q => m_within h.d (wi f n 1) (j : Int) (by omega) a2.2 (by omega) (by omega) Q
    rw [show ((j : Int)).toNat = j by omega] at wt
    have tg1 := h.d.tg (wi f (wi f n 1) j + 1) (by omega) (by omega)
    have tg2 := h.d.tg (wi f (wi f n 1) j + 2) (by omega) (by omega)
    obtain ⟨p, hp⟩ : ∃ p, nt f (wi f (wi f n 1) j + 1) = p := ⟨_, rfl⟩
    obtain ⟨m, hm⟩ : ∃ m, nt f (wi f (wi f n 1) j + 2) = m := ⟨_, rfl⟩
    obtain ⟨v, hv⟩ : ∃ v, nt f (wi f (wi f n 1) j + 3) = v := ⟨_, rfl⟩
    rw [hp] at po tg1
    rw [hm] at na tg2
    rw [hv] at am cfa
    obtain ⟨S1, n1, k, R, B, nb1, nb2, k0, k1, kP, kN, fr, kk⟩ := m_sumOf b p m (by omega) na (by omega)
    unfold zR at R
    have h1 := h.su fr
    have tg3 := h1.d.tg (wi f (wi f n 1) j + 3) (by omega) (by omega)
    rw [hv] at tg3
    have n1b := B.n1
    have so : S1 148 k = sat (gacc g (kF f (wi f n 1)) j p m) := by
      have := B.ro.at1 k k0 k1
      rw [kP, kN] at this
      rw [← this]; rfl
    have ad := fun S Q => m_added S Q (gacc g (kF f (wi f n 1)) j p m) v (gp p m) (by omega)
    have gs : gacc g (kF f (wi f n 1)) (j + 1) = gad (gacc g (kF f (wi f n 1)) j) p m v := by
      rw [gacc]; unfold kF; simp only [hp, hm, hv]
    have B2 := B.setO (v := sat (gacc g (kF f (wi f n 1)) j p m + v)) k0 k1
    rw [kP, kN, gsat_up, ← gs] at B2
    have gp2 : ∀ p m, 0 ≤ gacc g (kF f (wi f n 1)) (j + 1) p m := by
      intro q w
      rw [gs]; unfold gad
      have := gp q w
      split <;> omega
    have fr2 : sufr S (up S1 148 k (sat (gacc g (kF f (wi f n 1)) j p m + v))) := fr.tr (sufr_row (by omega))
    obtain ⟨S', n', z5, z6, r2, B3, gp3, fr3, nb3⟩ := ih (j + 1) _ n1 (0, wi f (wi f n 1) j) (0, k) (h.su fr2) (mi.su fr2) B2 gp2 (by omega) (by omega)
    refine ⟨S', n', z5, z6, fun Q => ?_, B3, gp3, fr2.tr fr3, by omega⟩
    have r2 := r2 Q
    rw [show ((j + 1 : Nat) : Int) = (j : Int) + 1 by omega] at r2
    rw [← r2]
    conv => lhs; rw [L296_136]
    simp (disch := omega) only [bcd, true_and, and_true, and_self, if_true, if_false, ite_true, ite_false, reduceIte, Int.reduceEq, Int.reduceNe, Int.reduceLT, Int.reduceLE, Int.reduceAdd, Int.reduceSub, Int.reduceMul, Int.reduceNeg, Int.reduceMod, Int.reduceDiv, Int.reduceToNat, Nat.reduceAdd, Nat.reduceLeDiff, List.length_cons, List.length_nil, not_false_eq_true, not_true_eq_false, ne_eq, or_false, false_or, or_self, false_and, and_false, or_true, true_or, ite_self, Int.add_sub_cancel, Int.sub_add_cancel, b_lc1, b_lc2, b_lc3, b_lc4, b_lc5, up_eq, up_ei, up_n1, up_n2, W32i, W8i, W16i, W64i, if_ps, if_ng, and_tr, fil_n1, fil_in, fil_out, le_tt, le_ff, lt_tt, lt_ff, eq_tt, eq_ff, ct, wt, tg1, tg2, R, tg3, so, ad]
theorem m_outS {f : F} {sc : Int} {L : Led} {gi gm g : Int → Int → Int} (t : TF f sc) (bs : Int) : ∀ (c i : Nat) (S : Sto) (nn : Int) (y3 y4 y5 y6 : AV), MT S f sc L → MI S f → MS S nn gi (gsat (gOu f g i)) gm → (∀ p m, 0 ≤ gOu f g i p m) → (i : Int) + c = nc f (w0 f 2) → nn + 8 * c < 144 → ∃ S' n' y3' y4' y5' y6', (∀ Q : ZQ, zG Cd 296 (Cd 296 101) [(34, 34), (0, bs), (0, (i : Int)), y3, y4, y5, y6] [] S Q = zG Cd 296 (Cd 296 219) [(34, 34), (0, bs), (0, nc f (w0 f 2)), y3', y4', y5', y6'] [] S' Q) ∧ MS S' n' gi (gsat (gOu f g (nc f (w0 f 2)).toNat)) gm ∧ sufr S S' ∧ n' ≤ nn + 8 * c := by
  have l2 := t.l2
  have a2 := t.fd 2 (by omega)
  have sz := t.sz
  intro c
  induction c with
  | zero =>
    intro i S nn y3 y4 y5 y6 h mi b gp hi hn
    have k2 : S 142 2 = w0 f 2 := h.s.fl 2 (by omega)
    have ct := h.d.ct (w0 f 2) (by omega) a2.2
    refine ⟨S, nn, y3, y4, y5, y6, fun Q => ?_, by rw [show (nc f (w0 f 2)).toNat = i by omega]; exact b, sufr.rf S, by omega⟩
    rw [show nc f (w0 f 2) = (i : Int) by omega] at ct ⊢
    obtain ⟨R, hR⟩ : ∃ R, zG Cd 296 (Cd 296 219) [(34, 34), (0, bs), (0, (i : Int)), y3, y4, y5, y6] [] S Q = R := ⟨_, rfl⟩
    rw [L296_101]
    simp (disch := omega) only [bcd, true_and, and_true, and_self, if_true, if_false, ite_true, ite_false, reduceIte, Int.reduceEq, Int.reduceNe, Int.reduceLT, Int.reduceLE, Int.reduceAdd, Int.reduceSub, Int.reduceMul, Int.reduceNeg, Int.reduceMod, Int.reduceDiv, Int.reduceToNat, Nat.reduceAdd, Nat.reduceLeDiff, List.length_cons, List.length_nil, not_false_eq_true, not_true_eq_false, ne_eq, or_false, false_or, or_self, false_and, and_false, or_true, true_or, ite_self, Int.add_sub_cancel, Int.sub_add_cancel, b_lc1, b_lc2, b_lc3, b_lc4, b_lc5, up_eq, up_ei, up_n1, up_n2, W32i, W8i, W16i, W64i, if_ps, if_ng, and_tr, fil_n1, fil_in, fil_out, le_tt, le_ff, lt_tt, lt_ff, eq_tt, eq_ff, k2, ct, hR]
  | succ c ih =>
    intro i S nn y3 y4 y5 y6 h mi b gp hi hn
    have k2 : S 142 2 = w0 f 2 := h.s.fl 2 (by omega)
    have ct := h.d.ct (w0 f 2) (by omega) a2.2
    have of1 := t.of i (by omega)
    have n0 := of1.n0
    have nk := of1.nk
    have ol := of1.l2
    have wa := wi_l t.v (by omega) a2.2 l2.1 i (by omega)
    have w1 := fun Q => m_within h.d (w0 f 2) (i : Int) (by omega) a2.2 (by omega) (by omega) Q
    rw [show ((i : Int)).toNat = i by omega] at w1
    have w2 := fun Q => m_within h.d ((wi f (w0 f 2) i)) 1 (by omega) n0.2 (by omega) (by omega) Q
    rw [show (1 : Int).toNat = 1 by rfl] at w2
    obtain ⟨S1, n1, z5, z6, r1, B1, gp1, fr1, nb1⟩ := m_outC t of1 bs (i : Int) (nc f (wi f ((wi f (w0 f 2) i)) 1)).toNat 0 S nn y5 y6 h mi b gp (by omega) (by omega)
    obtain ⟨S', n', q3, q4, q5, q6, r2, B2, fr2, nb2⟩ := ih (i + 1) S1 n1 (0, wi f ((wi f (w0 f 2) i)) 1) (0, nc f (wi f ((wi f (w0 f 2) i)) 1)) z5 z6 (h.su fr1) (mi.su fr1) B1 gp1 (by omega) (by omega)
    refine ⟨S', n', q3, q4, q5, q6, fun Q => ?_, B2, fr1.tr fr2, by omega⟩
    have r1 := r1 Q
    have r2 := r2 Q
    rw [show ((i + 1 : Nat) : Int) = (i : Int) + 1 by omega] at r2
    rw [show ((0 : Nat) : Int) = 0 by rfl] at r1
    have st : zG Cd 296 (Cd 296 101) [(34, 34), (0, bs), (0, (i : Int)), y3, y4, y5, y6] [] S Q = zG Cd 296 (Cd 296 136) [(34, 34), (0, bs), (0, (i : Int)), (0, wi f ((wi f (w0 f 2) i)) 1), (0, 0), y5, y6] [] S Q := by
      rw [L296_101]
      simp (disch := omega) only [bcd, true_and, and_true, and_self, if_true, if_false, ite_true, ite_false, reduceIte, Int.reduceEq, Int.reduceNe, Int.reduceLT, Int.reduceLE, Int.reduceAdd, Int.reduceSub, Int.reduceMul, Int.reduceNeg, Int.reduceMod, Int.reduceDiv, Int.reduceToNat, Nat.reduceAdd, Nat.reduceLeDiff, List.length_cons, List.length_nil, not_false_eq_true, not_true_eq_false, ne_eq, or_false, false_or, or_self, false_and, and_false, or_true, true_or, ite_self, Int.add_sub_cancel, Int.sub_add_cancel, b_lc1, b_lc2, b_lc3, b_lc4, b_lc5, up_eq, up_ei, up_n1, up_n2, W32i, W8i, W16i, W64i, if_ps, if_ng, and_tr, fil_n1, fil_in, fil_out, le_tt, le_ff, lt_tt, lt_ff, eq_tt, eq_ff, k2, ct, w1, w2]
    rw [st, r1, ← r2]
    simp (disch := omega) only [bcd, true_and, and_true, and_self, if_true, if_false, ite_true, ite_false, reduceIte, Int.reduceEq, Int.reduceNe, Int.reduceLT, Int.reduceLE, Int.reduceAdd, Int.reduceSub, Int.reduceMul, Int.reduceNeg, Int.reduceMod, Int.reduceDiv, Int.reduceToNat, Nat.reduceAdd, Nat.reduceLeDiff, List.length_cons, List.length_nil, not_false_eq_true, not_true_eq_false, ne_eq, or_false, false_or, or_self, false_and, and_false, or_true, true_or, ite_self, Int.add_sub_cancel, Int.sub_add_cancel, b_lc1, b_lc2, b_lc3, b_lc4, b_lc5, up_eq, up_ei, up_n1, up_n2, W32i, W8i, W16i, W64i, if_ps, if_ng, and_tr, fil_n1, fil_in, fil_out, le_tt, le_ff, lt_tt, lt_ff, eq_tt, eq_ff, M296]
