-- uses: 95
def sbf (r : Int) (S S' : Sto) : Prop := (∀ b, b ≠ 33 → b ≠ r → b ≠ r + 79 → b ≠ r + 80 → b ≠ r + 81 → S' b = S b) ∧ ∀ i, i ≠ 4 → i ≠ 5 → i ≠ 6 → S' 33 i = S 33 i
theorem sbf.rf (r : Int) (S : Sto) : sbf r S S := ⟨fun _ _ _ _ _ _ => rfl, fun _ _ _ _ => rfl⟩
theorem sbf.tr {r : Int} {S S' S'' : Sto} (h : sbf r S S') (g : sbf r S' S'') : sbf r S S'' := ⟨fun b a1 a2 a3 a4 a5 => (g.1 b a1 a2 a3 a4 a5).trans (h.1 b a1 a2 a3 a4 a5), fun i a b c => (g.2 i a b c).trans (h.2 i a b c)⟩
theorem sbf.xb {S S' : Sto} {r : Int} (h : sbf r S S') (hr : r % 512 = 31) : xbf S S' := ⟨fun b a1 a2 a3 a4 a5 a6 a7 a8 => h.1 b (by omega) (by omega) (by omega) (by omega) (by omega), h.2⟩
theorem bfr.sb {S S' : Sto} {r : Int} (h : bfr r S S') (hr : r % 512 = 31) : sbf r S S' := ⟨fun b a1 a2 a3 a4 a5 => h.1 b a2 a3 a4 a5, fun i _ _ _ => by rw [h.1 33 (by omega) (by omega) (by omega) (by omega)]⟩
theorem xsc.sb {S S' : Sto} {r : Int} (h : xsc S S') : sbf r S S' := ⟨fun b a1 a2 a3 a4 a5 => h.2 b a1, h.1⟩
theorem BG.sc {S S' : Sto} {r n : Int} {g : Int → Int → Int} (h : BG S r n g) (e : xsc S S') : BG S' r n g := by
  have hr := h.hr
  exact h.cg (e.2 _ (by omega)) (e.2 _ (by omega)) (e.2 _ (by omega)) (e.2 _ (by omega))
theorem BG.sbo {S S' : Sto} {r r' n : Int} {g : Int → Int → Int} (h : BG S r n g) (e : sbf r' S S') (hr' : r' % 512 = 31) (ne : r ≠ r') : BG S' r n g := by
  have hr := h.hr
  exact h.cg (e.1 _ (by omega) (by omega) (by omega) (by omega) (by omega)) (e.1 _ (by omega) (by omega) (by omega) (by omega) (by omega)) (e.1 _ (by omega) (by omega) (by omega) (by omega) (by omega)) (e.1 _ (by omega) (by omega) (by omega) (by omega) (by omega))
/-- a coin is read -/
theorem x_coR {S : Sto} {f : F} {l m sc : Int} (h : XD S f) (l0 : 0 ≤ l) (l1 : l < fsize f) (h2 : nf f l = 2) (i : Nat) (hi : (i : Int) < nc f l) (c : CF f l m sc i) (Q : ZQ) : zCall Cd 250 4 [(33, 33), (0, l), (0, (i : Int))] S Q = Q (xco S f (wi f l i)) (0, 1) :=
  x_coin1 h l i l0 l1 h2 hi c.c0.2 c.n1 c.n2 c.n3 Q
theorem xco_1 (S : Sto) (f : F) (c : Int) : xco S f c 33 4 = nt f (c + 1) ∧ xco S f c 33 5 = nt f (c + 2) ∧ xco S f c 33 6 = nt f (c + 3) := by
  unfold xco
  refine ⟨?_, ?_, ?_⟩ <;> simp (disch := omega) only [true_and, and_true, and_self, if_true, if_false, ite_true, ite_false, reduceIte, Int.reduceEq, Int.reduceNe, Int.reduceLT, Int.reduceLE, Int.reduceAdd, Int.reduceSub, Int.reduceMul, Int.reduceNeg, Int.reduceMod, Int.reduceDiv, Int.reduceToNat, Nat.reduceAdd, Nat.reduceLeDiff, List.length_cons, List.length_nil, not_false_eq_true, not_true_eq_false, ne_eq, or_false, false_or, or_self, false_and, and_false, or_true, true_or, ite_self, Int.add_sub_cancel, Int.sub_add_cancel, b_lc1, b_lc2, b_lc3, b_lc4, b_lc5, up_eq, up_ei, up_n1, up_n2, W32i, W8i, W16i, W64i, if_ps, if_ng, and_tr, fil_n1, fil_in, fil_out]
/-- not good: the rest is passed over -/
theorem x_bal0 {S : Sto} {f : F} {sc : Int} {L : Led} (h : XS S f sc L) (a : Int) (b c d e g : AV) (Q : ZQ) : zG Cd 15 (Cd 15 282) [(11, 11), (0, 0), (0, a), b, c, d, e, g] [] S Q = Q S (0, 0) := by
  have k2 : S 113 2 = w0 f 2 := h.s.fl 2 (by omega)
  have a2 := h.t.fd 2 (by omega)
  have l2 := h.t.l2
  have mn := fun Q => x_many h.d (w0 f 2) (by omega) a2.2 (by have := l2.1; omega) Q
  by_cases q : nc f (w0 f 2) ≤ 0
  · simp (disch := omega) only [bcd, true_and, and_true, and_self, if_true, if_false, ite_true, ite_false, reduceIte, Int.reduceEq, Int.reduceNe, Int.reduceLT, Int.reduceLE, Int.reduceAdd, Int.reduceSub, Int.reduceMul, Int.reduceNeg, Int.reduceMod, Int.reduceDiv, Int.reduceToNat, Nat.reduceAdd, Nat.reduceLeDiff, List.length_cons, List.length_nil, not_false_eq_true, not_true_eq_false, ne_eq, or_false, false_or, or_self, false_and, and_false, or_true, true_or, ite_self, Int.add_sub_cancel, Int.sub_add_cancel, b_lc1, b_lc2, b_lc3, b_lc4, b_lc5, up_eq, up_ei, up_n1, up_n2, W32i, W8i, W16i, W64i, if_ps, if_ng, and_tr, fil_n1, fil_in, fil_out, le_tt, le_ff, lt_tt, lt_ff, eq_tt, eq_ff, M15, L15_294, M254, k2, mn]
  · simp (disch := omega) only [bcd, true_and, and_true, and_self, if_true, if_false, ite_true, ite_false, reduceIte, Int.reduceEq, Int.reduceNe, Int.reduceLT, Int.reduceLE, Int.reduceAdd, Int.reduceSub, Int.reduceMul, Int.reduceNeg, Int.reduceMod, Int.reduceDiv, Int.reduceToNat, Nat.reduceAdd, Nat.reduceLeDiff, List.length_cons, List.length_nil, not_false_eq_true, not_true_eq_false, ne_eq, or_false, false_or, or_self, false_and, and_false, or_true, true_or, ite_self, Int.add_sub_cancel, Int.sub_add_cancel, b_lc1, b_lc2, b_lc3, b_lc4, b_lc5, up_eq, up_ei, up_n1, up_n2, W32i, W8i, W16i, W64i, if_ps, if_ng, and_tr, fil_n1, fil_in, fil_out, le_tt, le_ff, lt_tt, lt_ff, eq_tt, eq_ff, M15, L15_294, M254, k2, mn]
theorem x_mint {f : F} {sc r : Int} {L : Led} (hr : r % 512 = 31) (w : LW L) (t : TF f sc) (th : there L f = true) : ∀ (c i : Nat) (S : Sto) (nn : Int) (y : AV), XS S f sc L → S 109 1 = r → BG S r nn (gacc (gIn L f (nc f (w0 f 0)).toNat) (kF f (w0 f 5)) i) → (i : Int) + c = nc f (w0 f 5) → nn + c < 160 → ∃ S' n' k' y', (∀ Q : ZQ, zG Cd 15 (Cd 15 161) [(11, 11), (0, 1), (0, w0 f 5), (0, (i : Int)), y, (9, 0), (9, 0), (9, 0)] [] S Q = zG Cd 15 (Cd 15 282) [(11, 11), (0, zb1 (zall (mck L f) c i)), (0, w0 f 5), (0, k'), y', (9, 0), (9, 0), (9, 0)] [] S' Q) ∧ sbf r S S' ∧ (zall (mck L f) c i = true → BG S' r n' (gM L f) ∧ n' ≤ nn + c) := by
  obtain ⟨t1, t2, t3, t4, t5⟩ := there_1 th
  have l0 := t.l0
  have l5 := t.l5
  have a5 := t.fd 5 (by omega)
  have mcs := fun i hi => t.mc i hi
  intro c
  induction c with
  | zero =>
    intro i S nn y h hk b hi hn
    have mn := fun Q => x_many h.d (w0 f 5) (by omega) a5.2 (by have := l5.1; omega) Q
    refine ⟨S, nn, (i : Int), y, fun Q => ?_, sbf.rf r S, fun _ => ⟨?_, by omega⟩⟩
    · obtain ⟨R, hR⟩ : ∃ R, zG Cd 15 (Cd 15 282) [(11, 11), (0, 1), (0, w0 f 5), (0, (i : Int)), y, (9, 0), (9, 0), (9, 0)] [] S Q = R := ⟨_, rfl⟩
      rw [L15_161, zall, zb1_t]
      simp (disch := omega) only [bcd, true_and, and_true, and_self, if_true, if_false, ite_true, ite_false, reduceIte, Int.reduceEq, Int.reduceNe, Int.reduceLT, Int.reduceLE, Int.reduceAdd, Int.reduceSub, Int.reduceMul, Int.reduceNeg, Int.reduceMod, Int.reduceDiv, Int.reduceToNat, Nat.reduceAdd, Nat.reduceLeDiff, List.length_cons, List.length_nil, not_false_eq_true, not_true_eq_false, ne_eq, or_false, false_or, or_self, false_and, and_false, or_true, true_or, ite_self, Int.add_sub_cancel, Int.sub_add_cancel, b_lc1, b_lc2, b_lc3, b_lc4, b_lc5, up_eq, up_ei, up_n1, up_n2, W32i, W8i, W16i, W64i, if_ps, if_ng, and_tr, fil_n1, fil_in, fil_out, le_tt, le_ff, lt_tt, lt_ff, eq_tt, eq_ff, mn, hR]
    · unfold gM; rw [show (nc f (w0 f 5)).toNat = i by omega]; exact b
  | succ c ih =>
    intro i S nn y h hk b hi hn
    have mn := fun Q => x_many h.d (w0 f 5) (by omega) a5.2 (by have := l5.1; omega) Q
    have cf := t.mc i (by omega)
    have cr := fun Q => x_coR h.d (by omega) a5.2 l5.1 i (by omega) cf Q
    obtain ⟨c0, n1, n2, n3, po, na, am, _, _, _⟩ := cf
    have s0 := t.s0
    obtain ⟨p, hp⟩ : ∃ p, nt f (wi f (w0 f 5) i + 1) = p := ⟨_, rfl⟩
    obtain ⟨m, hm⟩ : ∃ m, nt f (wi f (w0 f 5) i + 2) = m := ⟨_, rfl⟩
    obtain ⟨v, hv⟩ : ∃ v, nt f (wi f (w0 f 5) i + 3) = v := ⟨_, rfl⟩
    rw [hp] at po
    rw [hm] at na
    rw [hv] at am
    have gv : gacc (gIn L f (nc f (w0 f 0)).toNat) (kF f (w0 f 5)) i p m = sIn L f p m (nc f (w0 f 0)).toNat := by
      rw [gacc_add, gIn_s w p m (nc f (w0 f 0)).toNat (fun j hj => t1 j (by omega)), gacc_no i (fun j hj e => by
        have := kF_ne mcs j i hj (by omega)
        unfold kF at this e
        simp only [hp, hm] at this e
        exact this e)]
      omega
    have sb := sIn_b w p m (nc f (w0 f 0)).toNat (fun j hj => t1 j (by omega)) (fun j k x y => t2 j k x (by omega))
    have tb := w.totb' p m
    have tb0 := w.tot0 p m
    obtain ⟨x1, x2, x3⟩ := xco_1 S f (wi f (w0 f 5) i)
    rw [hp] at x1
    rw [hm] at x2
    rw [hv] at x3
    have xc := xsc.co S f (wi f (w0 f 5) i)
    obtain ⟨T, hT⟩ : ∃ T, xco S f (wi f (w0 f 5) i) = T := ⟨_, rfl⟩
    rw [hT] at x1 x2 x3 xc cr
    have hX := h.xf xc.xb
    have bX := b.sc xc
    have hkX : T 109 1 = r := by rw [xc.2 _ (by decide)]; exact hk
    have mk : mck L f i = decide (v < 0 ∨ L.tot p m ≤ 4611686018427387904 - v) := by unfold mck; rw [hp, hm, hv]
    rw [zall, mk]
    by_cases ov : zLong (gacc (gIn L f (nc f (w0 f 0)).toNat) (kF f (w0 f 5)) i p m + v)
    · obtain ⟨S1, n1, R, B, fr, nb⟩ := bg_put (k := 1) (by omega) (by omega) hkX bX p m v (by omega) na (by unfold zLong; omega) (by rw [gv]; unfold zLong; omega) (by omega) ov
      unfold zR at R
      have hS1 := hX.xf (fr.xb hr)
      have y1 : S1 33 4 = p := by rw [fr.1 33 (by omega) (by omega) (by omega) (by omega)]; exact x1
      have y2 : S1 33 5 = m := by rw [fr.1 33 (by omega) (by omega) (by omega) (by omega)]; exact x2
      have y3 : S1 33 6 = v := by rw [fr.1 33 (by omega) (by omega) (by omega) (by omega)]; exact x3
      have tt := fun Q => x_totL hS1.l w Q p m
      rw [W64i (by omega) (by omega)] at tt
      have hk1 : S1 109 1 = r := by rw [fr.1 _ (by omega) (by omega) (by omega) (by omega)]; exact hkX
      have fr2 : sbf r S S1 := xc.sb.tr (fr.sb hr)
      by_cases q : v < 0 ∨ L.tot p m ≤ 4611686018427387904 - v
      · rw [show decide (v < 0 ∨ L.tot p m ≤ 4611686018427387904 - v) = true from decide_eq_true q, Bool.true_and]
        have B' : BG S1 r n1 (gacc (gIn L f (nc f (w0 f 0)).toNat) (kF f (w0 f 5)) (i + 1)) := by
          rw [gacc]; unfold kF; simp only [hp, hm, hv]; exact B
        obtain ⟨S', n', k', y', r2, e1, e2⟩ := ih (i + 1) S1 n1 (0, 1) hS1 hk1 B' (by omega) (by omega)
        refine ⟨S', n', k', y', fun Q => ?_, fr2.tr e1, fun z => ⟨(e2 z).1, by have := (e2 z).2; omega⟩⟩
        have r2 := r2 Q
        rw [show ((i + 1 : Nat) : Int) = (i : Int) + 1 by omega] at r2
        rw [← r2]
        conv => lhs; rw [L15_161]
        by_cases q1 : v < 0
        · simp (disch := omega) only [bcd, true_and, and_true, and_self, if_true, if_false, ite_true, ite_false, reduceIte, Int.reduceEq, Int.reduceNe, Int.reduceLT, Int.reduceLE, Int.reduceAdd, Int.reduceSub, Int.reduceMul, Int.reduceNeg, Int.reduceMod, Int.reduceDiv, Int.reduceToNat, Nat.reduceAdd, Nat.reduceLeDiff, List.length_cons, List.length_nil, not_false_eq_true, not_true_eq_false, ne_eq, or_false, false_or, or_self, false_and, and_false, or_true, true_or, ite_self, Int.add_sub_cancel, Int.sub_add_cancel, b_lc1, b_lc2, b_lc3, b_lc4, b_lc5, up_eq, up_ei, up_n1, up_n2, W32i, W8i, W16i, W64i, if_ps, if_ng, and_tr, fil_n1, fil_in, fil_out, le_tt, le_ff, lt_tt, lt_ff, eq_tt, eq_ff, mn, cr, x1, x2, x3, R, y1, y2, y3, tt]
          iterate 14 (try (simp only [M15]; simp (disch := omega) only [bcd, true_and, and_true, and_self, if_true, if_false, ite_true, ite_false, reduceIte, Int.reduceEq, Int.reduceNe, Int.reduceLT, Int.reduceLE, Int.reduceAdd, Int.reduceSub, Int.reduceMul, Int.reduceNeg, Int.reduceMod, Int.reduceDiv, Int.reduceToNat, Nat.reduceAdd, Nat.reduceLeDiff, List.length_cons, List.length_nil, not_false_eq_true, not_true_eq_false, ne_eq, or_false, false_or, or_self, false_and, and_false, or_true, true_or, ite_self, Int.add_sub_cancel, Int.sub_add_cancel, b_lc1, b_lc2, b_lc3, b_lc4, b_lc5, up_eq, up_ei, up_n1, up_n2, W32i, W8i, W16i, W64i, if_ps, if_ng, and_tr, fil_n1, fil_in, fil_out, le_tt, le_ff, lt_tt, lt_ff, eq_tt, eq_ff, R, y1, y2, y3, tt]))
        · have q2 : L.tot p m ≤ 4611686018427387904 - v := q.resolve_left q1
          simp (disch := omega) only [bcd, true_and, and_true, and_self, if_true, if_false, ite_true, ite_false, reduceIte, Int.reduceEq, Int.reduceNe, Int.reduceLT, Int.reduceLE, Int.reduceAdd, Int.reduceSub, Int.reduceMul, Int.reduceNeg, Int.reduceMod, Int.reduceDiv, Int.reduceToNat, Nat.reduceAdd, Nat.reduceLeDiff, List.length_cons, List.length_nil, not_false_eq_true, not_true_eq_false, ne_eq, or_false, false_or, or_self, false_and, and_false, or_true, true_or, ite_self, Int.add_sub_cancel, Int.sub_add_cancel, b_lc1, b_lc2, b_lc3, b_lc4, b_lc5, up_eq, up_ei, up_n1, up_n2, W32i, W8i, W16i, W64i, if_ps, if_ng, and_tr, fil_n1, fil_in, fil_out, le_tt, le_ff, lt_tt, lt_ff, eq_tt, eq_ff, mn, cr, x1, x2, x3, R, y1, y2, y3, tt]
          iterate 14 (try (simp only [M15]; simp (disch := omega) only [bcd, true_and, and_true, and_self, if_true, if_false, ite_true, ite_false, reduceIte, Int.reduceEq, Int.reduceNe, Int.reduceLT, Int.reduceLE, Int.reduceAdd, Int.reduceSub, Int.reduceMul, Int.reduceNeg, Int.reduceMod, Int.reduceDiv, Int.reduceToNat, Nat.reduceAdd, Nat.reduceLeDiff, List.length_cons, List.length_nil, not_false_eq_true, not_true_eq_false, ne_eq, or_false, false_or, or_self, false_and, and_false, or_true, true_or, ite_self, Int.add_sub_cancel, Int.sub_add_cancel, b_lc1, b_lc2, b_lc3, b_lc4, b_lc5, up_eq, up_ei, up_n1, up_n2, W32i, W8i, W16i, W64i, if_ps, if_ng, and_tr, fil_n1, fil_in, fil_out, le_tt, le_ff, lt_tt, lt_ff, eq_tt, eq_ff, R, y1, y2, y3, tt]))
      · rw [show decide (v < 0 ∨ L.tot p m ≤ 4611686018427387904 - v) = false from decide_eq_false q, Bool.false_and]
        refine ⟨S1, 0, (i : Int) + 1, (0, 1), fun Q => ?_, fr2, fun z => absurd z (by decide)⟩
        have q1 : ¬ v < 0 := fun x => q (Or.inl x)
        have q2 : ¬ L.tot p m ≤ 4611686018427387904 - v := fun x => q (Or.inr x)
        have mn1 := fun Q => x_many hS1.d (w0 f 5) (by omega) a5.2 (by have := l5.1; omega) Q
        obtain ⟨R', hR'⟩ : ∃ R, zG Cd 15 (Cd 15 282) [(11, 11), (0, 0), (0, w0 f 5), (0, (i : Int) + 1), (0, 1), (9, 0), (9, 0), (9, 0)] [] S1 Q = R := ⟨_, rfl⟩
        have s1 : zG Cd 15 (Cd 15 161) [(11, 11), (0, 0), (0, w0 f 5), (0, (i : Int) + 1), (0, 1), (9, 0), (9, 0), (9, 0)] [] S1 Q = R' := by
          rw [L15_161]
          by_cases z : nc f (w0 f 5) ≤ (i : Int) + 1 <;> simp (disch := omega) only [bcd, true_and, and_true, and_self, if_true, if_false, ite_true, ite_false, reduceIte, Int.reduceEq, Int.reduceNe, Int.reduceLT, Int.reduceLE, Int.reduceAdd, Int.reduceSub, Int.reduceMul, Int.reduceNeg, Int.reduceMod, Int.reduceDiv, Int.reduceToNat, Nat.reduceAdd, Nat.reduceLeDiff, List.length_cons, List.length_nil, not_false_eq_true, not_true_eq_false, ne_eq, or_false, false_or, or_self, false_and, and_false, or_true, true_or, ite_self, Int.add_sub_cancel, Int.sub_add_cancel, b_lc1, b_lc2, b_lc3, b_lc4, b_lc5, up_eq, up_ei, up_n1, up_n2, W32i, W8i, W16i, W64i, if_ps, if_ng, and_tr, fil_n1, fil_in, fil_out, le_tt, le_ff, lt_tt, lt_ff, eq_tt, eq_ff, mn1, hR']
        rw [zb1_f, hR', ← s1]
        conv => lhs; rw [L15_161]
        simp (disch := omega) only [bcd, true_and, and_true, and_self, if_true, if_false, ite_true, ite_false, reduceIte, Int.reduceEq, Int.reduceNe, Int.reduceLT, Int.reduceLE, Int.reduceAdd, Int.reduceSub, Int.reduceMul, Int.reduceNeg, Int.reduceMod, Int.reduceDiv, Int.reduceToNat, Nat.reduceAdd, Nat.reduceLeDiff, List.length_cons, List.length_nil, not_false_eq_true, not_true_eq_false, ne_eq, or_false, false_or, or_self, false_and, and_false, or_true, true_or, ite_self, Int.add_sub_cancel, Int.sub_add_cancel, b_lc1, b_lc2, b_lc3, b_lc4, b_lc5, up_eq, up_ei, up_n1, up_n2, W32i, W8i, W16i, W64i, if_ps, if_ng, and_tr, fil_n1, fil_in, fil_out, le_tt, le_ff, lt_tt, lt_ff, eq_tt, eq_ff, mn, cr, x1, x2, x3, R, y1, y2, y3, tt]
        iterate 14 (try (simp only [M15]; simp (disch := omega) only [bcd, true_and, and_true, and_self, if_true, if_false, ite_true, ite_false, reduceIte, Int.reduceEq, Int.reduceNe, Int.reduceLT, Int.reduceLE, Int.reduceAdd, Int.reduceSub, Int.reduceMul, Int.reduceNeg, Int.reduceMod, Int.reduceDiv, Int.reduceToNat, Nat.reduceAdd, Nat.reduceLeDiff, List.length_cons, List.length_nil, not_false_eq_true, not_true_eq_false, ne_eq, or_false, false_or, or_self, false_and, and_false, or_true, true_or, ite_self, Int.add_sub_cancel, Int.sub_add_cancel, b_lc1, b_lc2, b_lc3, b_lc4, b_lc5, up_eq, up_ei, up_n1, up_n2, W32i, W8i, W16i, W64i, if_ps, if_ng, and_tr, fil_n1, fil_in, fil_out, le_tt, le_ff, lt_tt, lt_ff, eq_tt, eq_ff, R, y1, y2, y3, tt]))
    · have p0 := fun Q => bg_put0 (k := 1) (by omega) (by omega) hkX bX p m v (by omega) na (by unfold zLong; omega) (by rw [gv]; unfold zLong; omega) ov Q
      rw [gv] at ov
      unfold zLong at ov
      have q : ¬ (v < 0 ∨ L.tot p m ≤ 4611686018427387904 - v) := by omega
      rw [show decide (v < 0 ∨ L.tot p m ≤ 4611686018427387904 - v) = false from decide_eq_false q, Bool.false_and]
      refine ⟨T, 0, (i : Int) + 1, (0, 1), fun Q => ?_, xc.sb, fun z => absurd z (by decide)⟩
      have mn1 := fun Q => x_many hX.d (w0 f 5) (by omega) a5.2 (by have := l5.1; omega) Q
      obtain ⟨R', hR'⟩ : ∃ R, zG Cd 15 (Cd 15 282) [(11, 11), (0, 0), (0, w0 f 5), (0, (i : Int) + 1), (0, 1), (9, 0), (9, 0), (9, 0)] [] T Q = R := ⟨_, rfl⟩
      have s1 : zG Cd 15 (Cd 15 161) [(11, 11), (0, 0), (0, w0 f 5), (0, (i : Int) + 1), (0, 1), (9, 0), (9, 0), (9, 0)] [] T Q = R' := by
        rw [L15_161]
        by_cases z : nc f (w0 f 5) ≤ (i : Int) + 1 <;> simp (disch := omega) only [bcd, true_and, and_true, and_self, if_true, if_false, ite_true, ite_false, reduceIte, Int.reduceEq, Int.reduceNe, Int.reduceLT, Int.reduceLE, Int.reduceAdd, Int.reduceSub, Int.reduceMul, Int.reduceNeg, Int.reduceMod, Int.reduceDiv, Int.reduceToNat, Nat.reduceAdd, Nat.reduceLeDiff, List.length_cons, List.length_nil, not_false_eq_true, not_true_eq_false, ne_eq, or_false, false_or, or_self, false_and, and_false, or_true, true_or, ite_self, Int.add_sub_cancel, Int.sub_add_cancel, b_lc1, b_lc2, b_lc3, b_lc4, b_lc5, up_eq, up_ei, up_n1, up_n2, W32i, W8i, W16i, W64i, if_ps, if_ng, and_tr, fil_n1, fil_in, fil_out, le_tt, le_ff, lt_tt, lt_ff, eq_tt, eq_ff, mn1, hR']
      rw [zb1_f, hR', ← s1]
      conv => lhs; rw [L15_161]
      simp (disch := omega) only [bcd, true_and, and_true, and_self, if_true, if_false, ite_true, ite_false, reduceIte, Int.reduceEq, Int.reduceNe, Int.reduceLT, Int.reduceLE, Int.reduceAdd, Int.reduceSub, Int.reduceMul, Int.reduceNeg, Int.reduceMod, Int.reduceDiv, Int.reduceToNat, Nat.reduceAdd, Nat.reduceLeDiff, List.length_cons, List.length_nil, not_false_eq_true, not_true_eq_false, ne_eq, or_false, false_or, or_self, false_and, and_false, or_true, true_or, ite_self, Int.add_sub_cancel, Int.sub_add_cancel, b_lc1, b_lc2, b_lc3, b_lc4, b_lc5, up_eq, up_ei, up_n1, up_n2, W32i, W8i, W16i, W64i, if_ps, if_ng, and_tr, fil_n1, fil_in, fil_out, le_tt, le_ff, lt_tt, lt_ff, eq_tt, eq_ff, mn, cr, x1, x2, x3, p0]
      iterate 14 (try (simp only [M15]; simp (disch := omega) only [bcd, true_and, and_true, and_self, if_true, if_false, ite_true, ite_false, reduceIte, Int.reduceEq, Int.reduceNe, Int.reduceLT, Int.reduceLE, Int.reduceAdd, Int.reduceSub, Int.reduceMul, Int.reduceNeg, Int.reduceMod, Int.reduceDiv, Int.reduceToNat, Nat.reduceAdd, Nat.reduceLeDiff, List.length_cons, List.length_nil, not_false_eq_true, not_true_eq_false, ne_eq, or_false, false_or, or_self, false_and, and_false, or_true, true_or, ite_self, Int.add_sub_cancel, Int.sub_add_cancel, b_lc1, b_lc2, b_lc3, b_lc4, b_lc5, up_eq, up_ei, up_n1, up_n2, W32i, W8i, W16i, W64i, if_ps, if_ng, and_tr, fil_n1, fil_in, fil_out, le_tt, le_ff, lt_tt, lt_ff, eq_tt, eq_ff, p0]))
