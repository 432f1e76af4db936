-- uses: 93 87
/-! X.isBalanced -/
def xbf (S S' : Sto) : Prop := (∀ b, b % 512 ≠ 30 → b % 512 ≠ 31 → b % 512 ≠ 32 → b % 512 ≠ 33 → b % 512 ≠ 109 → b % 512 ≠ 110 → b % 512 ≠ 111 → b % 512 ≠ 112 → S' b = S b) ∧ ∀ i, i ≠ 4 → i ≠ 5 → i ≠ 6 → S' 33 i = S 33 i
theorem xbf.rf (S : Sto) : xbf S S := ⟨fun _ _ _ _ _ _ _ _ _ => rfl, fun _ _ _ _ => rfl⟩
theorem xbf.tr {S S' S'' : Sto} (h : xbf S S') (g : xbf S' S'') : xbf S S'' := ⟨fun b a1 a2 a3 a4 a5 a6 a7 a8 => (g.1 b a1 a2 a3 a4 a5 a6 a7 a8).trans (h.1 b a1 a2 a3 a4 a5 a6 a7 a8), fun i a b c => (g.2 i a b c).trans (h.2 i a b c)⟩
theorem bfr.xb {S S' : Sto} {r : Int} (h : bfr r S S') (hr : r % 512 = 31) : xbf S S' := ⟨fun b a1 a2 a3 a4 a5 a6 a7 a8 => h.1 b (by omega) (by omega) (by omega) (by omega), fun i _ _ _ => by rw [h.1 33 (by omega) (by omega) (by omega) (by omega)]⟩
theorem xsc.xb {S S' : Sto} (h : xsc S S') : xbf S S' := ⟨fun b a1 a2 a3 a4 a5 a6 a7 a8 => h.2 b (by omega), h.1⟩
theorem XS.xf {S S' : Sto} {f : F} {sc : Int} {L : Led} (h : XS S f sc L) (e : xbf S S') : XS S' f sc L := by
  have g : ∀ b, b % 512 ≠ 30 → b % 512 ≠ 31 → b % 512 ≠ 32 → b % 512 ≠ 33 → b % 512 ≠ 109 → b % 512 ≠ 110 → b % 512 ≠ 111 → b % 512 ≠ 112 → S' b = S b := e.1
  apply XS.mk1
  case t => exact h.t
  case w => exact h.w
  case d =>
    have h := h.d
    obtain ⟨h_v, h_sz, h_kd, h_va, h_nu, h_ss⟩ := h
    apply XD.mk1 <;> first | assumption | (rw [g _ (by decide) (by decide) (by decide) (by decide) (by decide) (by decide) (by decide) (by decide)]; assumption)
  case s =>
    have h := h.s
    obtain ⟨h_sc0, h_fl⟩ := h
    apply SFl.mk1
    case sc0 => rw [e.2 _ (by decide) (by decide) (by decide)]; assumption
    case fl => rw [g _ (by decide) (by decide) (by decide) (by decide) (by decide) (by decide) (by decide) (by decide)]; assumption
  case l =>
    have h := h.l
    obtain ⟨h_size, h_lives, h_ad, h_md, h_sp, h_kd, h_ds, h_po, h_na, h_am, h_da, h_lsz, h_ssz, h_tks, h_sb, h_ob, h_pt, h_tk, h_se, h_ht, h_ud, h_bg, h_pot, h_mr⟩ := h
    apply XL.mk1 <;> (rw [g _ (by decide) (by decide) (by decide) (by decide) (by decide) (by decide) (by decide) (by decide)]; assumption)
theorem x_inC {f : F} {sc r n : Int} {L : Led} {g : Int → Int → Int} (i : Int) (hr : r % 512 = 31) (lv : zlive L n) (gb : ∀ (j : Nat) (p m : Int), (j : Int) ≤ L.kd n → 0 ≤ gacc g (kL L n) j p m ∧ gacc g (kL L n) j p m ≤ 4611686018427387904) : ∀ (c j : Nat) (S : Sto) (nn : Int), XS S f sc L → S 109 0 = r → BG S r nn (gacc g (kL L n) j) → (j : Int) + c = L.kd n → nn + c < 160 → ∃ S' n', (∀ Q : ZQ, zG Cd 15 (Cd 15 45) [(11, 11), (0, 1), (0, i), (0, n), (0, 8 * n + j), (9, 0), (9, 0), (9, 0)] [] S Q = zG Cd 15 (Cd 15 121) [(11, 11), (0, 1), (0, i), (0, n), (0, 8 * n + L.kd n), (9, 0), (9, 0), (9, 0)] [] S' Q) ∧ BG S' r n' (gacc g (kL L n) (L.kd n).toNat) ∧ bfr r S S' ∧ n' ≤ nn + c := by
  obtain ⟨lv1, lv2, lv3⟩ := lv
  intro c
  induction c with
  | zero =>
    intro j S nn h hk b hj hn
    have nL := h.w.n
    have ow := h.w.ow n lv1 lv2
    have kd := ow.kd
    have xk := h.l.kd n lv1 lv2
    refine ⟨S, nn, fun Q => ?_, by rw [show (L.kd n).toNat = j by omega]; exact b, bfr.rf r S, by omega⟩
    rw [show L.kd n = (j : Int) by omega]
    obtain ⟨R, hR⟩ : ∃ R, zG Cd 15 (Cd 15 121) [(11, 11), (0, 1), (0, i), (0, n), (0, 8 * n + (j : Int)), (9, 0), (9, 0), (9, 0)] [] S Q = R := ⟨_, rfl⟩
    rw [L15_45]
    simp (disch := omega) only [bcd, true_and, and_true, and_self, if_true, if_false, ite_true, ite_false, reduceIte, Int.reduceEq, Int.reduceNe, Int.reduceLT, Int.reduceLE, Int.reduceAdd, Int.reduceSub, Int.reduceMul, Int.reduceNeg, Int.reduceMod, Int.reduceDiv, Int.reduceToNat, Nat.reduceAdd, Nat.reduceLeDiff, List.length_cons, List.length_nil, not_false_eq_true, not_true_eq_false, ne_eq, or_false, false_or, or_self, false_and, and_false, or_true, true_or, ite_self, Int.add_sub_cancel, Int.sub_add_cancel, b_lc1, b_lc2, b_lc3, b_lc4, b_lc5, up_eq, up_ei, up_n1, up_n2, W32i, W8i, W16i, W64i, if_ps, if_ng, and_tr, fil_n1, fil_in, fil_out, le_tt, le_ff, lt_tt, lt_ff, eq_tt, eq_ff, xk, hR]
  | succ c ih =>
    intro j S nn h hk b hj hn
    have nL := h.w.n
    have ow := h.w.ow n lv1 lv2
    have kd := ow.kd
    have xk := h.l.kd n lv1 lv2
    have po := ow.po j (by omega) (by omega)
    have e1 := h.l.po n j lv1 lv2 (by omega) (by omega)
    have e2 := h.l.na n j lv1 lv2 (by omega) (by omega)
    have e3 := h.l.am n j lv1 lv2 (by omega) (by omega)
    have b0 := gb j (L.po (8 * n + j)) (L.na (8 * n + j)) (by omega)
    have b1 := gb (j + 1) (L.po (8 * n + j)) (L.na (8 * n + j)) (by omega)
    have e4 : gacc g (kL L n) (j + 1) (L.po (8 * n + j)) (L.na (8 * n + j)) = gacc g (kL L n) j (L.po (8 * n + j)) (L.na (8 * n + j)) + L.am (8 * n + j) := by
      rw [gacc]; unfold gad kL; simp
    obtain ⟨S1, n1, R, B, fr, nb⟩ := bg_put (k := 0) (by omega) (by omega) hk b (L.po (8 * n + j)) (L.na (8 * n + j)) (L.am (8 * n + j)) (by omega) po.2.2.1 (by unfold zLong; omega) (by unfold zLong; omega) (by omega) (by unfold zLong; omega)
    unfold zR at R
    have hS1 := h.xf (fr.xb hr)
    have hk1 : S1 109 0 = r := by rw [fr.1 _ (by omega) (by omega) (by omega) (by omega)]; exact hk
    obtain ⟨S', n', r1, B', fr', nb'⟩ := ih (j + 1) S1 n1 hS1 hk1 B (by omega) (by omega)
    refine ⟨S', n', fun Q => ?_, B', fr.tr fr', by omega⟩
    have r1 := r1 Q
    rw [show 8 * n + ((j + 1 : Nat) : Int) = 8 * n + (j : Int) + 1 by omega] at r1
    rw [← r1]
    conv => lhs; rw [L15_45]
    simp (disch := omega) only [bcd, true_and, and_true, and_self, if_true, if_false, ite_true, ite_false, reduceIte, Int.reduceEq, Int.reduceNe, Int.reduceLT, Int.reduceLE, Int.reduceAdd, Int.reduceSub, Int.reduceMul, Int.reduceNeg, Int.reduceMod, Int.reduceDiv, Int.reduceToNat, Nat.reduceAdd, Nat.reduceLeDiff, List.length_cons, List.length_nil, not_false_eq_true, not_true_eq_false, ne_eq, or_false, false_or, or_self, false_and, and_false, or_true, true_or, ite_self, Int.add_sub_cancel, Int.sub_add_cancel, b_lc1, b_lc2, b_lc3, b_lc4, b_lc5, up_eq, up_ei, up_n1, up_n2, W32i, W8i, W16i, W64i, if_ps, if_ng, and_tr, fil_n1, fil_in, fil_out, le_tt, le_ff, lt_tt, lt_ff, eq_tt, eq_ff, xk, e1, e2, e3, R]
    iterate 14 (try (simp only [M15]; simp (disch := omega) only [bcd, true_and, and_true, and_self, if_true, if_false, ite_true, ite_false, reduceIte, Int.reduceEq, Int.reduceNe, Int.reduceLT, Int.reduceLE, Int.reduceAdd, Int.reduceSub, Int.reduceMul, Int.reduceNeg, Int.reduceMod, Int.reduceDiv, Int.reduceToNat, Nat.reduceAdd, Nat.reduceLeDiff, List.length_cons, List.length_nil, not_false_eq_true, not_true_eq_false, ne_eq, or_false, false_or, or_self, false_and, and_false, or_true, true_or, ite_self, Int.add_sub_cancel, Int.sub_add_cancel, b_lc1, b_lc2, b_lc3, b_lc4, b_lc5, up_eq, up_ei, up_n1, up_n2, W32i, W8i, W16i, W64i, if_ps, if_ng, and_tr, fil_n1, fil_in, fil_out, le_tt, le_ff, lt_tt, lt_ff, eq_tt, eq_ff, R]))
theorem x_inS {f : F} {sc r : Int} {L : Led} (hr : r % 512 = 31) (w : LW L) (th : there L f = true) : ∀ (c i : Nat) (S : Sto) (nn : Int) (y z : AV), XS S f sc L → S 109 0 = r → BG S r nn (gIn L f i) → (i : Int) + c = nc f (w0 f 0) → nn + 8 * c < 160 → ∃ S' n' y' z', (∀ Q : ZQ, zG Cd 15 (Cd 15 25) [(11, 11), (0, 1), (0, (i : Int)), y, z, (9, 0), (9, 0), (9, 0)] [] S Q = zG Cd 15 (Cd 15 127) [(11, 11), (0, 1), (0, nc f (w0 f 0)), y', z', (9, 0), (9, 0), (9, 0)] [] S' Q) ∧ BG S' r n' (gIn L f (nc f (w0 f 0)).toNat) ∧ bfr r S S' ∧ n' ≤ nn + 8 * c := by
  obtain ⟨t1, t2, t3, t4, t5⟩ := there_1 th
  intro c
  induction c with
  | zero =>
    intro i S nn y z h hk b hi hn
    have l0 := h.t.l0
    have ni := fun Q => x_inputs h Q
    refine ⟨S, nn, y, z, fun Q => ?_, by rw [show (nc f (w0 f 0)).toNat = i by omega]; exact b, bfr.rf r S, by omega⟩
    rw [show nc f (w0 f 0) = (i : Int) by omega] at ni ⊢
    obtain ⟨R, hR⟩ : ∃ R, zG Cd 15 (Cd 15 127) [(11, 11), (0, 1), (0, (i : Int)), y, z, (9, 0), (9, 0), (9, 0)] [] S Q = R := ⟨_, rfl⟩
    rw [L15_25]
    simp (disch := omega) only [bcd, true_and, and_true, and_self, if_true, if_false, ite_true, ite_false, reduceIte, Int.reduceEq, Int.reduceNe, Int.reduceLT, Int.reduceLE, Int.reduceAdd, Int.reduceSub, Int.reduceMul, Int.reduceNeg, Int.reduceMod, Int.reduceDiv, Int.reduceToNat, Nat.reduceAdd, Nat.reduceLeDiff, List.length_cons, List.length_nil, not_false_eq_true, not_true_eq_false, ne_eq, or_false, false_or, or_self, false_and, and_false, or_true, true_or, ite_self, Int.add_sub_cancel, Int.sub_add_cancel, b_lc1, b_lc2, b_lc3, b_lc4, b_lc5, up_eq, up_ei, up_n1, up_n2, W32i, W8i, W16i, W64i, if_ps, if_ng, and_tr, fil_n1, fil_in, fil_out, le_tt, le_ff, lt_tt, lt_ff, eq_tt, eq_ff, ni, hR]
  | succ c ih =>
    intro i S nn y z h hk b hi hn
    have l0 := h.t.l0
    have ni := fun Q => x_inputs h Q
    have lv := t1 i (by omega)
    have nL := w.n
    have ow := w.ow _ lv.1 lv.2.1
    have kd := ow.kd
    have xi := fun Q => x_input h i (by omega) lv Q
    have gb : ∀ (j : Nat) (p m : Int), (j : Int) ≤ L.kd ((nt f (wi f (w0 f 0) i + 1))) → 0 ≤ gacc (gIn L f i) (kL L ((nt f (wi f (w0 f 0) i + 1)))) j p m ∧ gacc (gIn L f i) (kL L ((nt f (wi f (w0 f 0) i + 1)))) j p m ≤ 4611686018427387904 := by
      intro j p m hj
      have am0 : ∀ x : Nat, x < (L.kd ((nt f (wi f (w0 f 0) i + 1)))).toNat → 0 ≤ (kL L ((nt f (wi f (w0 f 0) i + 1))) x).2.2 := by
        intro x hx
        have := ow.po x (by omega) (by omega)
        show 0 ≤ L.am (8 * (nt f (wi f (w0 f 0) i + 1)) + x)
        omega
      have a1 := gacc_mono (k := kL L ((nt f (wi f (w0 f 0) i + 1)))) (g := gIn L f i) p m 0 j (fun x hx => am0 x (by omega))
      have a2 := gacc_mono (k := kL L ((nt f (wi f (w0 f 0) i + 1)))) (g := gIn L f i) p m j ((L.kd ((nt f (wi f (w0 f 0) i + 1)))).toNat - j) (fun x hx => am0 x (by omega))
      rw [show j + ((L.kd ((nt f (wi f (w0 f 0) i + 1)))).toNat - j) = (L.kd ((nt f (wi f (w0 f 0) i + 1)))).toNat by omega] at a2
      rw [show 0 + j = j by omega] at a1
      have a3 : gacc (gIn L f i) (kL L ((nt f (wi f (w0 f 0) i + 1)))) 0 p m = sIn L f p m i := gIn_s w p m i (fun j hj => t1 j (by omega))
      have a4 : gacc (gIn L f i) (kL L ((nt f (wi f (w0 f 0) i + 1)))) (L.kd ((nt f (wi f (w0 f 0) i + 1)))).toNat p m = sIn L f p m (i + 1) := gIn_s w p m (i + 1) (fun j hj => t1 j (by omega))
      have a5 := sIn_b w p m i (fun j hj => t1 j (by omega)) (fun j k x y => t2 j k x (by omega))
      have a6 := sIn_b w p m (i + 1) (fun j hj => t1 j (by omega)) (fun j k x y => t2 j k x (by omega))
      have a7 := w.totb' p m
      omega
    obtain ⟨S1, n1, r1, B1, fr1, nb1⟩ := x_inC (i : Int) hr lv gb (L.kd ((nt f (wi f (w0 f 0) i + 1)))).toNat 0 S nn h hk b (by omega) (by omega)
    have hS1 := h.xf (fr1.xb hr)
    have hk1 : S1 109 0 = r := by rw [fr1.1 _ (by omega) (by omega) (by omega) (by omega)]; exact hk
    obtain ⟨S', n', y', z', r2, B2, fr2, nb2⟩ := ih (i + 1) S1 n1 (0, (nt f (wi f (w0 f 0) i + 1))) (0, 8 * (nt f (wi f (w0 f 0) i + 1)) + L.kd ((nt f (wi f (w0 f 0) i + 1)))) hS1 hk1 B1 (by omega) (by omega)
    refine ⟨S', n', y', z', fun Q => ?_, B2, fr1.tr fr2, by omega⟩
    have r1 := r1 Q
    have r2 := r2 Q
    rw [show ((i + 1 : Nat) : Int) = (i : Int) + 1 by omega] at r2
    rw [show 8 * (nt f (wi f (w0 f 0) i + 1)) + ((0 : Nat) : Int) = 8 * (nt f (wi f (w0 f 0) i + 1)) by omega] at r1
    have st : zG Cd 15 (Cd 15 25) [(11, 11), (0, 1), (0, (i : Int)), y, z, (9, 0), (9, 0), (9, 0)] [] S Q = zG Cd 15 (Cd 15 45) [(11, 11), (0, 1), (0, (i : Int)), (0, (nt f (wi f (w0 f 0) i + 1))), (0, 8 * (nt f (wi f (w0 f 0) i + 1))), (9, 0), (9, 0), (9, 0)] [] S Q := by
      obtain ⟨l1, l2, l3⟩ := lv
      rw [L15_25]
      simp (disch := omega) only [bcd, true_and, and_true, and_self, if_true, if_false, ite_true, ite_false, reduceIte, Int.reduceEq, Int.reduceNe, Int.reduceLT, Int.reduceLE, Int.reduceAdd, Int.reduceSub, Int.reduceMul, Int.reduceNeg, Int.reduceMod, Int.reduceDiv, Int.reduceToNat, Nat.reduceAdd, Nat.reduceLeDiff, List.length_cons, List.length_nil, not_false_eq_true, not_true_eq_false, ne_eq, or_false, false_or, or_self, false_and, and_false, or_true, true_or, ite_self, Int.add_sub_cancel, Int.sub_add_cancel, b_lc1, b_lc2, b_lc3, b_lc4, b_lc5, up_eq, up_ei, up_n1, up_n2, W32i, W8i, W16i, W64i, if_ps, if_ng, and_tr, fil_n1, fil_in, fil_out, le_tt, le_ff, lt_tt, lt_ff, eq_tt, eq_ff, ni, xi]
    rw [st, r1, ← r2]
    simp (disch := omega) only [bcd, true_and, and_true, and_self, if_true, if_false, ite_true, ite_false, reduceIte, Int.reduceEq, Int.reduceNe, Int.reduceLT, Int.reduceLE, Int.reduceAdd, Int.reduceSub, Int.reduceMul, Int.reduceNeg, Int.reduceMod, Int.reduceDiv, Int.reduceToNat, Nat.reduceAdd, Nat.reduceLeDiff, List.length_cons, List.length_nil, not_false_eq_true, not_true_eq_false, ne_eq, or_false, false_or, or_self, false_and, and_false, or_true, true_or, ite_self, Int.add_sub_cancel, Int.sub_add_cancel, b_lc1, b_lc2, b_lc3, b_lc4, b_lc5, up_eq, up_ei, up_n1, up_n2, W32i, W8i, W16i, W64i, if_ps, if_ng, and_tr, fil_n1, fil_in, fil_out, le_tt, le_ff, lt_tt, lt_ff, eq_tt, eq_ff, M15]
