-- uses: 93 88
theorem MT.su {S S' : Sto} {f : F} {sc : Int} {L : Led} (h : MT S f sc L) (e : sufr S S') : MT S' f sc L := by
  have g : ∀ b, b ≠ 34 → (b < 145 ∨ 149 < b) → S' b = S b := e.1
  apply MT.mk1
  case t => exact h.t
  case w => exact h.w
  case d =>
    have h := h.d
    obtain ⟨h_v, h_sz, h_fm, h_tg, h_ct, h_wh⟩ := h
    apply MD.mk1 <;> first | assumption | (rw [g _ (by decide) (by decide)]; assumption)
  case s =>
    have h := h.s
    obtain ⟨h_fl, h_tr⟩ := h
    apply MFl.mk1 <;> first | assumption | (rw [g _ (by decide) (by decide)]; assumption)
  case l =>
    have h := h.l
    obtain ⟨h_made, h_endw, h_ad, h_md, h_sp, h_kd, h_ds, h_po, h_na, h_am, h_da, h_ht, h_ud, h_bg, h_pts, h_aps, h_tks⟩ := h
    apply ML.mk1 <;> first | (rw [e.2 _ (by decide)]; assumption) | (rw [g _ (by decide) (by decide)]; assumption)
/-- M has noted the inputs and the collateral -/
def MI (S : Sto) (f : F) : Prop := (S 34 52 = nc f (w0 f 0)) ∧ (S 34 54 = nc f (w0 f 1)) ∧ (∀ j : Nat, (j : Int) < nc f (w0 f 0) → S 143 j = (nt f (wi f (w0 f 0) j + 1))) ∧ (∀ j : Nat, (j : Int) < nc f (w0 f 1) → S 144 j = (nt f (wi f (w0 f 1) j)))
theorem MI.mk1 {S : Sto} {f : F} (im : S 34 52 = nc f (w0 f 0)) (sm : S 34 54 = nc f (w0 f 1)) (ii : ∀ j : Nat, (j : Int) < nc f (w0 f 0) → S 143 j = (nt f (wi f (w0 f 0) j + 1))) (ss : ∀ j : Nat, (j : Int) < nc f (w0 f 1) → S 144 j = (nt f (wi f (w0 f 1) j))) : MI S f := by unfold MI; exact ⟨im, sm, ii, ss⟩
theorem MI.im {S : Sto} {f : F} (h : MI S f) : S 34 52 = nc f (w0 f 0) := by unfold MI at h; exact h.1
theorem MI.sm {S : Sto} {f : F} (h : MI S f) : S 34 54 = nc f (w0 f 1) := by unfold MI at h; exact h.2.1
theorem MI.ii {S : Sto} {f : F} (h : MI S f) : ∀ j : Nat, (j : Int) < nc f (w0 f 0) → S 143 j = (nt f (wi f (w0 f 0) j + 1)) := by unfold MI at h; exact h.2.2.1
theorem MI.ss {S : Sto} {f : F} (h : MI S f) : ∀ j : Nat, (j : Int) < nc f (w0 f 1) → S 144 j = (nt f (wi f (w0 f 1) j)) := by unfold MI at h; exact h.2.2.2
theorem MI.su {S S' : Sto} {f : F} (h : MI S f) (e : sufr S S') : MI S' f := by
  obtain ⟨h_im, h_sm, h_ii, h_ss⟩ := h
  apply MI.mk1 <;> first | (rw [e.2 _ (by decide)]; assumption) | (rw [e.1 _ (by decide) (by decide)]; assumption)
theorem MS_0 {S : Sto} (h : S 34 55 = 0) : MS S 0 g0 g0 g0 := by
  apply MS.mk1
  case n1 => omega
  case sz => exact h
  case ks => apply KS.mk1 <;> intros <;> omega
  case ri => apply RP.mk1 <;> intros <;> first | omega | rfl
  case ro => apply RP.mk1 <;> intros <;> first | omega | rfl
  case rm => apply RP.mk1 <;> intros <;> first | omega | rfl
abbrev kpos (S : Sto) (n : Int) (g : Int → Int → Int) : Prop := ∀ i, 0 ≤ i → i < n → 0 < g (S 145 i) (S 146 i)
theorem m_inC {f : F} {sc n : Int} {L : Led} {g : Int → Int → Int} (i : Nat) (hi : (i : Int) < nc f (w0 f 0)) (hn : (nt f (wi f (w0 f 0) i + 1)) = n) (lv : zlive L n) (gb : ∀ (j : Nat) (p m : Int), (j : Int) ≤ L.kd n → 0 ≤ gacc g (kL L n) j p m ∧ gacc g (kL L n) j p m ≤ 4611686018427387904) : ∀ (c j : Nat) (S : Sto) (nn : Int) (y3 y4 : AV), MT S f sc L → MI S f → MS S nn (gacc g (kL L n) j) g0 g0 → kpos S nn (gacc g (kL L n) j) → (j : Int) + c = L.kd n → nn + c < 144 → ∃ S' n' y3' y4', (∀ Q : ZQ, zG Cd 297 (Cd 297 17) [(34, 34), (0, (i : Int)), (0, (j : Int)), y3, y4] [] S Q = zG Cd 297 (Cd 297 84) [(34, 34), (0, (i : Int)), (0, L.kd n), y3', y4'] [] S' Q) ∧ MS S' n' (gacc g (kL L n) (L.kd n).toNat) g0 g0 ∧ kpos S' n' (gacc g (kL L n) (L.kd n).toNat) ∧ sufr S S' ∧ n' ≤ nn + c := by
  obtain ⟨lv1, lv2, lv3⟩ := lv
  intro c
  induction c with
  | zero =>
    intro j S nn y3 y4 h mi b kp hj hnn
    have nL := h.w.n
    have ow := h.w.ow n lv1 lv2
    have kd := ow.kd
    have l0 := h.t.l0
    have xk := h.l.kd n lv1 lv2
    have ei := mi.ii i hi
    rw [hn] at ei
    have ej : (L.kd n).toNat = j := by omega
    refine ⟨S, nn, y3, y4, fun Q => ?_, by rw [ej]; exact b, by rw [ej]; exact kp, sufr.rf S, by omega⟩
    rw [show L.kd n = (j : Int) by omega] at xk ⊢
    obtain ⟨R, hR⟩ : ∃ R, zG Cd 297 (Cd 297 84) [(34, 34), (0, (i : Int)), (0, (j : Int)), y3, y4] [] S Q = R := ⟨_, rfl⟩
    rw [L297_17]
    simp (disch := omega) only [bcd, true_and, and_true, and_self, if_true, if_false, ite_true, ite_false, reduceIte, Int.reduceEq, Int.reduceNe, Int.reduceLT, Int.reduceLE, Int.reduceAdd, Int.reduceSub, Int.reduceMul, Int.reduceNeg, Int.reduceMod, Int.reduceDiv, Int.reduceToNat, Nat.reduceAdd, Nat.reduceLeDiff, List.length_cons, List.length_nil, not_false_eq_true, not_true_eq_false, ne_eq, or_false, false_or, or_self, false_and, and_false, or_true, true_or, ite_self, Int.add_sub_cancel, Int.sub_add_cancel, b_lc1, b_lc2, b_lc3, b_lc4, b_lc5, up_eq, up_ei, up_n1, up_n2, W32i, W8i, W16i, W64i, if_ps, if_ng, and_tr, fil_n1, fil_in, fil_out, le_tt, le_ff, lt_tt, lt_ff, eq_tt, eq_ff, ei, xk, hR]
  | succ c ih =>
    intro j S nn y3 y4 h mi b kp hj hnn
    have nL := h.w.n
    have ow := h.w.ow n lv1 lv2
    have kd := ow.kd
    have l0 := h.t.l0
    have xk := h.l.kd n lv1 lv2
    have ei := mi.ii i hi
    rw [hn] at ei
    have po := ow.po j (by omega) (by omega)
    have e1 := h.l.po n j lv1 lv2 (by omega) (by omega)
    have e2 := h.l.na n j lv1 lv2 (by omega) (by omega)
    obtain ⟨p, hp⟩ : ∃ p, L.po (8 * n + j) = p := ⟨_, rfl⟩
    obtain ⟨m, hm⟩ : ∃ m, L.na (8 * n + j) = m := ⟨_, rfl⟩
    obtain ⟨v, hv⟩ : ∃ v, L.am (8 * n + j) = v := ⟨_, rfl⟩
    rw [hp, hm, hv] at po
    rw [hp] at e1
    rw [hm] at e2
    obtain ⟨S1, n1, k, R, B, nb1, nb2, k0, k1, kP, kN, fr, kk⟩ := m_sumOf b p m (by omega) po.2.2.1 (by omega)
    unfold zR at R
    have h1 := h.su fr
    have e3 := h1.l.am n j lv1 lv2 (by omega) (by omega)
    rw [hv] at e3
    have n1b := B.n1
    have si : S1 147 k = gacc g (kL L n) j p m := by rw [← B.ri.at1 k k0 k1, kP, kN]
    have gs : gacc g (kL L n) (j + 1) = gad (gacc g (kL L n) j) p m v := by rw [gacc]; unfold kL; simp only [hp, hm, hv]
    have b0 := gb j p m (by omega)
    have b1 := gb (j + 1) p m (by omega)
    have gv : gacc g (kL L n) (j + 1) p m = gacc g (kL L n) j p m + v := by rw [gs]; unfold gad; simp
    have B2 := B.setI (v := gacc g (kL L n) j p m + v) k0 k1
    rw [kP, kN, ← gad_up, ← gs] at B2
    have fr2 : sufr S (up S1 147 k (gacc g (kL L n) j p m + v)) := fr.tr (sufr_row (by omega))
    have kp2 : kpos (up S1 147 k (gacc g (kL L n) j p m + v)) n1 (gacc g (kL L n) (j + 1)) := by
      intro x x0 x1
      have z1 : up S1 147 k (gacc g (kL L n) j p m + v) 145 x = S1 145 x := by simp (disch := omega) only [true_and, and_true, and_self, if_true, if_false, ite_true, ite_false, reduceIte, Int.reduceEq, Int.reduceNe, Int.reduceLT, Int.reduceLE, Int.reduceAdd, Int.reduceSub, Int.reduceMul, Int.reduceNeg, Int.reduceMod, Int.reduceDiv, Int.reduceToNat, Nat.reduceAdd, Nat.reduceLeDiff, List.length_cons, List.length_nil, not_false_eq_true, not_true_eq_false, ne_eq, or_false, false_or, or_self, false_and, and_false, or_true, true_or, ite_self, Int.add_sub_cancel, Int.sub_add_cancel, b_lc1, b_lc2, b_lc3, b_lc4, b_lc5, up_eq, up_ei, up_n1, up_n2, W32i, W8i, W16i, W64i, if_ps, if_ng, and_tr, fil_n1, fil_in, fil_out]
      have z2 : up S1 147 k (gacc g (kL L n) j p m + v) 146 x = S1 146 x := by simp (disch := omega) only [true_and, and_true, and_self, if_true, if_false, ite_true, ite_false, reduceIte, Int.reduceEq, Int.reduceNe, Int.reduceLT, Int.reduceLE, Int.reduceAdd, Int.reduceSub, Int.reduceMul, Int.reduceNeg, Int.reduceMod, Int.reduceDiv, Int.reduceToNat, Nat.reduceAdd, Nat.reduceLeDiff, List.length_cons, List.length_nil, not_false_eq_true, not_true_eq_false, ne_eq, or_false, false_or, or_self, false_and, and_false, or_true, true_or, ite_self, Int.add_sub_cancel, Int.sub_add_cancel, b_lc1, b_lc2, b_lc3, b_lc4, b_lc5, up_eq, up_ei, up_n1, up_n2, W32i, W8i, W16i, W64i, if_ps, if_ng, and_tr, fil_n1, fil_in, fil_out]
      rw [z1, z2]
      rcases kk x x0 x1 with q | ⟨y, y0, y1, y2, y3⟩
      · rw [q.1, q.2, gv]; omega
      · have := kp y y0 y1
        rw [y2, y3] at this
        rw [gs]; unfold gad
        split
        · omega
        · omega
    obtain ⟨S', n', y3', y4', r2, B3, kp3, fr3, nb3⟩ := ih (j + 1) _ n1 (0, 8 * n + j) (0, k) (h.su fr2) (mi.su fr2) B2 kp2 (by omega) (by omega)
    refine ⟨S', n', y3', y4', fun Q => ?_, B3, kp3, fr2.tr fr3, by omega⟩
    have r2 := r2 Q
    rw [show ((j + 1 : Nat) : Int) = (j : Int) + 1 by omega] at r2
    rw [← r2]
    conv => lhs; rw [L297_17]
    simp (disch := omega) only [bcd, true_and, and_true, and_self, if_true, if_false, ite_true, ite_false, reduceIte, Int.reduceEq, Int.reduceNe, Int.reduceLT, Int.reduceLE, Int.reduceAdd, Int.reduceSub, Int.reduceMul, Int.reduceNeg, Int.reduceMod, Int.reduceDiv, Int.reduceToNat, Nat.reduceAdd, Nat.reduceLeDiff, List.length_cons, List.length_nil, not_false_eq_true, not_true_eq_false, ne_eq, or_false, false_or, or_self, false_and, and_false, or_true, true_or, ite_self, Int.add_sub_cancel, Int.sub_add_cancel, b_lc1, b_lc2, b_lc3, b_lc4, b_lc5, up_eq, up_ei, up_n1, up_n2, W32i, W8i, W16i, W64i, if_ps, if_ng, and_tr, fil_n1, fil_in, fil_out, le_tt, le_ff, lt_tt, lt_ff, eq_tt, eq_ff, ei, xk, e1, e2, R, e3, si]
theorem gIn_b {L : Led} {f : F} (w : LW L) (th : there L f = true) (i : Nat) (hi : (i : Int) < nc f (w0 f 0)) (j : Nat) (p m : Int) (hj : (j : Int) ≤ L.kd ((nt f (wi f (w0 f 0) i + 1)))) : 0 ≤ gacc (gIn L f i) (kL L ((nt f (wi f (w0 f 0) i + 1)))) j p m ∧ gacc (gIn L f i) (kL L ((nt f (wi f (w0 f 0) i + 1)))) j p m ≤ 4611686018427387904 := by
  obtain ⟨t1, t2, t3, t4, t5⟩ := there_1 th
  have lv := t1 i (by omega)
  have ow := w.ow _ lv.1 lv.2.1
  have am0 : ∀ x : Nat, x < (L.kd ((nt f (wi f (w0 f 0) i + 1)))).toNat → 0 ≤ (kL L ((nt f (wi f (w0 f 0) i + 1))) x).2.2 := by
    intro x hx
    have := ow.po x (by omega) (by omega)
    show 0 ≤ L.am (8 * (nt f (wi f (w0 f 0) i + 1)) + x)
    omega
  have kd := ow.kd
  have a1 := gacc_mono (k := kL L ((nt f (wi f (w0 f 0) i + 1)))) (g := gIn L f i) p m 0 j (fun x hx => am0 x (by omega))
  have a2 := gacc_mono (k := kL L ((nt f (wi f (w0 f 0) i + 1)))) (g := gIn L f i) p m j ((L.kd ((nt f (wi f (w0 f 0) i + 1)))).toNat - j) (fun x hx => am0 x (by omega))
  rw [show j + ((L.kd ((nt f (wi f (w0 f 0) i + 1)))).toNat - j) = (L.kd ((nt f (wi f (w0 f 0) i + 1)))).toNat by omega] at a2
  rw [show 0 + j = j by omega] at a1
  have a3 : gacc (gIn L f i) (kL L ((nt f (wi f (w0 f 0) i + 1)))) 0 p m = sIn L f p m i := gIn_s w p m i (fun j hj => t1 j (by omega))
  have a4 : gacc (gIn L f i) (kL L ((nt f (wi f (w0 f 0) i + 1)))) (L.kd ((nt f (wi f (w0 f 0) i + 1)))).toNat p m = sIn L f p m (i + 1) := gIn_s w p m (i + 1) (fun j hj => t1 j (by omega))
  have a5 := sIn_b w p m i (fun j hj => t1 j (by omega)) (fun j k x y => t2 j k x (by omega))
  have a6 := sIn_b w p m (i + 1) (fun j hj => t1 j (by omega)) (fun j k x y => t2 j k x (by omega))
  have a7 := w.totb' p m
  omega
theorem m_sumIn {S : Sto} {f : F} {sc : Int} {L : Led} (h : MT S f sc L) (mi : MI S f) (th : there L f = true) : ∃ S' n, zR 297 5 [(34, 34)] S S' (9, 0) ∧ MS S' n (gIn L f (nc f (w0 f 0)).toNat) g0 g0 ∧ kpos S' n (gIn L f (nc f (w0 f 0)).toNat) ∧ sufr S S' ∧ n ≤ 8 * nc f (w0 f 0) := by
  obtain ⟨t1, t2, t3, t4, t5⟩ := there_1 th
  have l0 := h.t.l0
  have w := h.w
  have lp : ∀ (c i : Nat) (T : Sto) (nn : Int) (y2 y3 y4 : AV), MT T f sc L → MI T f → MS T nn (gIn L f i) g0 g0 → kpos T nn (gIn L f i) → (i : Int) + c = nc f (w0 f 0) → nn + 8 * c < 144 → ∃ S' n', (∀ Q : ZQ, zG Cd 297 (Cd 297 7) [(34, 34), (0, (i : Int)), y2, y3, y4] [] T Q = Q S' (9, 0)) ∧ MS S' n' (gIn L f (nc f (w0 f 0)).toNat) g0 g0 ∧ kpos S' n' (gIn L f (nc f (w0 f 0)).toNat) ∧ sufr T S' ∧ n' ≤ nn + 8 * c := by
    intro c
    induction c with
    | zero =>
      intro i T nn y2 y3 y4 hT mT b kp hi hn
      have im := mT.im
      have ei : (nc f (w0 f 0)).toNat = i := by omega
      refine ⟨T, nn, fun Q => ?_, by rw [ei]; exact b, by rw [ei]; exact kp, sufr.rf T, by omega⟩
      rw [L297_7]
      simp (disch := omega) only [bcd, true_and, and_true, and_self, if_true, if_false, ite_true, ite_false, reduceIte, Int.reduceEq, Int.reduceNe, Int.reduceLT, Int.reduceLE, Int.reduceAdd, Int.reduceSub, Int.reduceMul, Int.reduceNeg, Int.reduceMod, Int.reduceDiv, Int.reduceToNat, Nat.reduceAdd, Nat.reduceLeDiff, List.length_cons, List.length_nil, not_false_eq_true, not_true_eq_false, ne_eq, or_false, false_or, or_self, false_and, and_false, or_true, true_or, ite_self, Int.add_sub_cancel, Int.sub_add_cancel, b_lc1, b_lc2, b_lc3, b_lc4, b_lc5, up_eq, up_ei, up_n1, up_n2, W32i, W8i, W16i, W64i, if_ps, if_ng, and_tr, fil_n1, fil_in, fil_out, le_tt, le_ff, lt_tt, lt_ff, eq_tt, eq_ff, M297, im]
    | succ c ih =>
      intro i T nn y2 y3 y4 hT mT b kp hi hn
      have im := mT.im
      have lv := t1 i (by omega)
      have ow := w.ow _ lv.1 lv.2.1
      have kd := ow.kd
      obtain ⟨S1, n1, z3, z4, r1, B1, kp1, fr1, nb1⟩ := m_inC i (by omega) rfl lv (fun j p m hj => gIn_b w th i (by omega) j p m hj) (L.kd ((nt f (wi f (w0 f 0) i + 1)))).toNat 0 T nn y3 y4 hT mT b kp (by omega) (by omega)
      obtain ⟨S', n', r2, B2, kp2, fr2, nb2⟩ := ih (i + 1) S1 n1 (0, L.kd ((nt f (wi f (w0 f 0) i + 1)))) z3 z4 (hT.su fr1) (mT.su fr1) B1 kp1 (by omega) (by omega)
      refine ⟨S', n', fun Q => ?_, B2, kp2, fr1.tr fr2, by omega⟩
      have r1 := r1 Q
      have r2 := r2 Q
      rw [show ((i + 1 : Nat) : Int) = (i : Int) + 1 by omega] at r2
      rw [show ((0 : Nat) : Int) = 0 by rfl] at r1
      have st : zG Cd 297 (Cd 297 7) [(34, 34), (0, (i : Int)), y2, y3, y4] [] T Q = zG Cd 297 (Cd 297 17) [(34, 34), (0, (i : Int)), (0, 0), y3, y4] [] T Q := by
        rw [L297_7]
        simp (disch := omega) only [bcd, true_and, and_true, and_self, if_true, if_false, ite_true, ite_false, reduceIte, Int.reduceEq, Int.reduceNe, Int.reduceLT, Int.reduceLE, Int.reduceAdd, Int.reduceSub, Int.reduceMul, Int.reduceNeg, Int.reduceMod, Int.reduceDiv, Int.reduceToNat, Nat.reduceAdd, Nat.reduceLeDiff, List.length_cons, List.length_nil, not_false_eq_true, not_true_eq_false, ne_eq, or_false, false_or, or_self, false_and, and_false, or_true, true_or, ite_self, Int.add_sub_cancel, Int.sub_add_cancel, b_lc1, b_lc2, b_lc3, b_lc4, b_lc5, up_eq, up_ei, up_n1, up_n2, W32i, W8i, W16i, W64i, if_ps, if_ng, and_tr, fil_n1, fil_in, fil_out, le_tt, le_ff, lt_tt, lt_ff, eq_tt, eq_ff, im]
      rw [st, r1, ← r2]
      simp (disch := omega) only [bcd, true_and, and_true, and_self, if_true, if_false, ite_true, ite_false, reduceIte, Int.reduceEq, Int.reduceNe, Int.reduceLT, Int.reduceLE, Int.reduceAdd, Int.reduceSub, Int.reduceMul, Int.reduceNeg, Int.reduceMod, Int.reduceDiv, Int.reduceToNat, Nat.reduceAdd, Nat.reduceLeDiff, List.length_cons, List.length_nil, not_false_eq_true, not_true_eq_false, ne_eq, or_false, false_or, or_self, false_and, and_false, or_true, true_or, ite_self, Int.add_sub_cancel, Int.sub_add_cancel, b_lc1, b_lc2, b_lc3, b_lc4, b_lc5, up_eq, up_ei, up_n1, up_n2, W32i, W8i, W16i, W64i, if_ps, if_ng, and_tr, fil_n1, fil_in, fil_out, le_tt, le_ff, lt_tt, lt_ff, eq_tt, eq_ff, M297]
  have fr0 : sufr S (up S 34 55 0) := ⟨fun b a c => by simp (disch := omega) only [true_and, and_true, and_self, if_true, if_false, ite_true, ite_false, reduceIte, Int.reduceEq, Int.reduceNe, Int.reduceLT, Int.reduceLE, Int.reduceAdd, Int.reduceSub, Int.reduceMul, Int.reduceNeg, Int.reduceMod, Int.reduceDiv, Int.reduceToNat, Nat.reduceAdd, Nat.reduceLeDiff, List.length_cons, List.length_nil, not_false_eq_true, not_true_eq_false, ne_eq, or_false, false_or, or_self, false_and, and_false, or_true, true_or, ite_self, Int.add_sub_cancel, Int.sub_add_cancel, b_lc1, b_lc2, b_lc3, b_lc4, b_lc5, up_eq, up_ei, up_n1, up_n2, W32i, W8i, W16i, W64i, if_ps, if_ng, and_tr, fil_n1, fil_in, fil_out, up_fn], fun x hx => by simp (disch := omega) only [true_and, and_true, and_self, if_true, if_false, ite_true, ite_false, reduceIte, Int.reduceEq, Int.reduceNe, Int.reduceLT, Int.reduceLE, Int.reduceAdd, Int.reduceSub, Int.reduceMul, Int.reduceNeg, Int.reduceMod, Int.reduceDiv, Int.reduceToNat, Nat.reduceAdd, Nat.reduceLeDiff, List.length_cons, List.length_nil, not_false_eq_true, not_true_eq_false, ne_eq, or_false, false_or, or_self, false_and, and_false, or_true, true_or, ite_self, Int.add_sub_cancel, Int.sub_add_cancel, b_lc1, b_lc2, b_lc3, b_lc4, b_lc5, up_eq, up_ei, up_n1, up_n2, W32i, W8i, W16i, W64i, if_ps, if_ng, and_tr, fil_n1, fil_in, fil_out]⟩
  obtain ⟨S', n', r, B, kp, fr, nb⟩ := lp (nc f (w0 f 0)).toNat 0 (up S 34 55 0) 0 (9, 0) (9, 0) (9, 0) (h.su fr0) (mi.su fr0) (MS_0 (by simp (disch := omega) only [true_and, and_true, and_self, if_true, if_false, ite_true, ite_false, reduceIte, Int.reduceEq, Int.reduceNe, Int.reduceLT, Int.reduceLE, Int.reduceAdd, Int.reduceSub, Int.reduceMul, Int.reduceNeg, Int.reduceMod, Int.reduceDiv, Int.reduceToNat, Nat.reduceAdd, Nat.reduceLeDiff, List.length_cons, List.length_nil, not_false_eq_true, not_true_eq_false, ne_eq, or_false, false_or, or_self, false_and, and_false, or_true, true_or, ite_self, Int.add_sub_cancel, Int.sub_add_cancel, b_lc1, b_lc2, b_lc3, b_lc4, b_lc5, up_eq, up_ei, up_n1, up_n2, W32i, W8i, W16i, W64i, if_ps, if_ng, and_tr, fil_n1, fil_in, fil_out])) (fun i a b => by omega) (by omega) (by omega)
  refine ⟨S', n', fun Q => ?_, B, kp, fr0.tr fr, by omega⟩
  have r := r Q
  rw [show ((0 : Nat) : Int) = 0 by rfl] at r
  rw [← r]
  simp (disch := omega) only [bcd, true_and, and_true, and_self, if_true, if_false, ite_true, ite_false, reduceIte, Int.reduceEq, Int.reduceNe, Int.reduceLT, Int.reduceLE, Int.reduceAdd, Int.reduceSub, Int.reduceMul, Int.reduceNeg, Int.reduceMod, Int.reduceDiv, Int.reduceToNat, Nat.reduceAdd, Nat.reduceLeDiff, List.length_cons, List.length_nil, not_false_eq_true, not_true_eq_false, ne_eq, or_false, false_or, or_self, false_and, and_false, or_true, true_or, ite_self, Int.add_sub_cancel, Int.sub_add_cancel, b_lc1, b_lc2, b_lc3, b_lc4, b_lc5, up_eq, up_ei, up_n1, up_n2, W32i, W8i, W16i, W64i, if_ps, if_ng, and_tr, fil_n1, fil_in, fil_out, le_tt, le_ff, lt_tt, lt_ff, eq_tt, eq_ff, M297]
