-- uses: 99f
theorem TF.ns4 {f : F} {sc : Int} (t : TF f sc) : ns f (w0 f 4) = 3 ∧ ns f (w0 f 7) = 1 + nc f (w0 f 7) ∧ ns f (w0 f 5) = 1 + 4 * nc f (w0 f 5) := by
  have l4 := t.l4
  have l5 := t.l5
  have l7 := t.l7
  have a4 := t.fd 4 (by omega)
  have a5 := t.fd 5 (by omega)
  have a7 := t.fd 7 (by omega)
  have e4 : nch f (w0 f 4) = nc f (w0 f 4) := by unfold nch; rw [if_neg (by omega), if_pos (by omega)]
  have e5 : nch f (w0 f 5) = nc f (w0 f 5) := by unfold nch; rw [if_neg (by omega), if_pos (by omega)]
  have e7 : nch f (w0 f 7) = nc f (w0 f 7) := by unfold nch; rw [if_neg (by omega), if_pos (by omega)]
  refine ⟨?_, ?_, ?_⟩
  · have nk := nk_in t.v (by omega) a4.2 (Or.inr l4.1) rfl
    have x0 : wi f (w0 f 4) 0 = w0 f 4 + 1 := rfl
    have x1 : wi f (w0 f 4) 1 = w0 f 4 + 2 := by
      rw [wi, x0, (nW_of f 1 (w0 f 4 + 1) t.v (by omega) (by omega)).l1 (by rw [t.vf.1]; omega)]; omega
    have x2 : wi f (w0 f 4) 2 = w0 f 4 + 3 := by
      rw [wi, x1, (nW_of f 1 (w0 f 4 + 2) t.v (by omega) (by omega)).l1 (by rw [t.vf.2]; omega)]; omega
    have := (wi_ok f 1 (w0 f 4) t.v (by omega) a4.2 2 (by omega)).2.2.2 (by omega)
    omega
  · have := (wi_ok f 1 (w0 f 7) t.v (by omega) a7.2 (nc f (w0 f 7)).toNat (by omega)).2.2.2 (by omega)
    have x := wi_ints t.v (by omega) a7.2 l7.1 (nc f (w0 f 7)).toNat (by omega) (fun j hj => (t.sg j (by omega)).1)
    omega
  · have w : ∀ k : Nat, (k : Int) ≤ nc f (w0 f 5) → wi f (w0 f 5) k = w0 f 5 + 1 + 4 * k := by
      intro k
      induction k with
      | zero => intro _; rw [wi]; simp
      | succ k ih =>
        intro hk
        have b := wi_l t.v (by omega) a5.2 l5.1 k (by omega)
        have p := (of_decide_eq_true (t.mnt k (by omega))).1
        have n4 := pA_ns t.v (by omega) b.2.1 p
        rw [wi, n4, ih (by omega)]
        omega
    have := (wi_ok f 1 (w0 f 5) t.v (by omega) a5.2 (nc f (w0 f 5)).toNat (by omega)).2.2.2 (by omega)
    have x := w (nc f (w0 f 5)).toNat (by omega)
    omega
theorem MS.rn {S : Sto} {n : Int} {L : Led} {f : F} (h : MS S n (gIn L f (nc f (w0 f 0)).toNat) g0 g0) (k : kpos S n (gIn L f (nc f (w0 f 0)).toNat)) : RN L f n := ⟨_, _, _, h.ks, h.ri, fun i a b => by rw [← h.ri.at1 i a b]; have := k i a b; omega⟩
theorem m_ctxN {S : Sto} {f : F} {sc : Int} {L : Led} (h : MT S f sc L) (mi : MI S f) (th : there L f = true) : ∃ S', zR 305 1 [(34, 34)] S S' (0, ctxN f (kN L f)) ∧ sufr S S' := by
  have t := h.t
  have sz := t.sz
  have l0 := t.l0
  have l2 := t.l2
  have l5 := t.l5
  have l7 := t.l7
  obtain ⟨S1, n1, r1, B1, kp1, fr1, nb1⟩ := m_sumIn h mi th
  unfold zR at r1
  have h1 := h.su fr1
  have a2 := t.fd 2 (by omega)
  have a4 := t.fd 4 (by omega)
  have a5 := t.fd 5 (by omega)
  have a7 := t.fd 7 (by omega)
  have k2 : S1 142 2 = w0 f 2 := h1.s.fl 2 (by omega)
  have k4 : S1 142 4 = w0 f 4 := h1.s.fl 4 (by omega)
  have k5 : S1 142 5 = w0 f 5 := h1.s.fl 5 (by omega)
  have k7 : S1 142 7 = w0 f 7 := h1.s.fl 7 (by omega)
  have ct := h1.d.ct (w0 f 2) (by omega) a2.2
  obtain ⟨n4, n7, n5⟩ := t.ns4
  have w4 := h1.d.wh (w0 f 4) (by omega) a4.2
  have w5 := h1.d.wh (w0 f 5) (by omega) a5.2
  have w7 := h1.d.wh (w0 f 7) (by omega) a7.2
  rw [n4] at w4
  rw [n5] at w5
  rw [n7] at w7
  have zs := B1.sz
  have n0 := B1.ks.n0
  refine ⟨S1, fun Q => ?_, fr1⟩
  rw [(B1.rn kp1).k]
  have e : ctxN f n1 = 4 + 3 + (1 + nc f (w0 f 7)) + (1 + 4 * nc f (w0 f 5)) + 1 + 4 * n1 + 1 + 4 * nc f (w0 f 2) := by unfold ctxN; omega
  rw [e]
  simp (disch := omega) only [bcd, true_and, and_true, and_self, if_true, if_false, ite_true, ite_false, reduceIte, Int.reduceEq, Int.reduceNe, Int.reduceLT, Int.reduceLE, Int.reduceAdd, Int.reduceSub, Int.reduceMul, Int.reduceNeg, Int.reduceMod, Int.reduceDiv, Int.reduceToNat, Nat.reduceAdd, Nat.reduceLeDiff, List.length_cons, List.length_nil, not_false_eq_true, not_true_eq_false, ne_eq, or_false, false_or, or_self, false_and, and_false, or_true, true_or, ite_self, Int.add_sub_cancel, Int.sub_add_cancel, b_lc1, b_lc2, b_lc3, b_lc4, b_lc5, up_eq, up_ei, up_n1, up_n2, W32i, W8i, W16i, W64i, if_ps, if_ng, and_tr, fil_n1, fil_in, fil_out, le_tt, le_ff, lt_tt, lt_ff, eq_tt, eq_ff, M305, r1, k2, k4, k5, k7, ct, w4, w5, w7, zs]
/-- the rows of sums, inputs and fields may have changed, no other place -/
def m1f (S S' : Sto) : Prop := (∀ b, b ≠ 34 → b ≠ 142 → b ≠ 143 → b ≠ 144 → (b < 145 ∨ 149 < b) → S' b = S b) ∧ ∀ i, i ≠ 52 → i ≠ 54 → i ≠ 55 → S' 34 i = S 34 i
theorem m1f.tr {S S' S'' : Sto} (h : m1f S S') (g : m1f S' S'') : m1f S S'' := ⟨fun b a1 a2 a3 a4 a5 => (g.1 b a1 a2 a3 a4 a5).trans (h.1 b a1 a2 a3 a4 a5), fun i a b c => (g.2 i a b c).trans (h.2 i a b c)⟩
theorem m1f.rf (S : Sto) : m1f S S := ⟨fun _ _ _ _ _ _ => rfl, fun _ _ _ _ => rfl⟩
theorem sufr.m1 {S S' : Sto} (h : sufr S S') : m1f S S' := ⟨fun b a1 _ _ _ a5 => h.1 b a1 a5, fun i _ _ c => h.2 i c⟩
theorem thfr.m1 {S S' : Sto} (h : thfr S S') : m1f S S' := ⟨fun b a1 _ a3 a4 _ => h.1 b a1 a3 a4, fun i a b _ => h.2 i a b⟩
theorem m_first {S : Sto} {f : F} {sc by1 : Int} {L : Led} (d : MD S f) (mh : MH S f) (l : ML S L) (w : LW L) (h64 : L.ht ≤ 64) (hs : S 34 3 = sc) (s0 : 0 ≤ sc ∧ sc ≤ 32) (f0 : 0 < fsize f) (hb : S 34 2 = by1) (b0 : 0 ≤ by1 ∧ by1 ≤ 4096) : ∃ S', zR 282 1 [(34, 34)] S S' (0, if fhp f (fsize f) < by1 then 6 else if isTx f sc = false then 7 else fph L f by1) ∧ m1f S S' ∧ (¬ fhp f (fsize f) < by1 → isTx f sc = true → fph L f by1 = 0 → MT S' f sc L ∧ MI S' f) := by
  have pp := mh.pp
  by_cases q6 : fhp f (fsize f) < by1
  case pos =>
    refine ⟨S, fun Q => ?_, m1f.rf S, fun x => absurd q6 x⟩
    rw [if_pos q6]
    simp (disch := omega) only [bcd, true_and, and_true, and_self, if_true, if_false, ite_true, ite_false, reduceIte, Int.reduceEq, Int.reduceNe, Int.reduceLT, Int.reduceLE, Int.reduceAdd, Int.reduceSub, Int.reduceMul, Int.reduceNeg, Int.reduceMod, Int.reduceDiv, Int.reduceToNat, Nat.reduceAdd, Nat.reduceLeDiff, List.length_cons, List.length_nil, not_false_eq_true, not_true_eq_false, ne_eq, or_false, false_or, or_self, false_and, and_false, or_true, true_or, ite_self, Int.add_sub_cancel, Int.sub_add_cancel, b_lc1, b_lc2, b_lc3, b_lc4, b_lc5, up_eq, up_ei, up_n1, up_n2, W32i, W8i, W16i, W64i, if_ps, if_ng, and_tr, fil_n1, fil_in, fil_out, le_tt, le_ff, lt_tt, lt_ff, eq_tt, eq_ff, M282, pp, hb]
  rw [if_neg q6]
  obtain ⟨S1, r1, f1, e1⟩ := m_isTx d mh hs s0 f0
  unfold zR at r1
  have m1 : m1f S S1 := ⟨fun b _ a2 _ _ _ => f1 b a2, fun i _ _ _ => by rw [f1 34 (by decide)]⟩
  by_cases q7 : isTx f sc = false
  case pos =>
    refine ⟨S1, fun Q => ?_, m1, fun _ x => by rw [q7] at x; cases x⟩
    rw [if_pos q7]
    rw [q7, zb1_f] at r1
    simp (disch := omega) only [bcd, true_and, and_true, and_self, if_true, if_false, ite_true, ite_false, reduceIte, Int.reduceEq, Int.reduceNe, Int.reduceLT, Int.reduceLE, Int.reduceAdd, Int.reduceSub, Int.reduceMul, Int.reduceNeg, Int.reduceMod, Int.reduceDiv, Int.reduceToNat, Nat.reduceAdd, Nat.reduceLeDiff, List.length_cons, List.length_nil, not_false_eq_true, not_true_eq_false, ne_eq, or_false, false_or, or_self, false_and, and_false, or_true, true_or, ite_self, Int.add_sub_cancel, Int.sub_add_cancel, b_lc1, b_lc2, b_lc3, b_lc4, b_lc5, up_eq, up_ei, up_n1, up_n2, W32i, W8i, W16i, W64i, if_ps, if_ng, and_tr, fil_n1, fil_in, fil_out, le_tt, le_ff, lt_tt, lt_ff, eq_tt, eq_ff, M282, pp, hb, r1]
  rw [if_neg q7]
  have q7' : isTx f sc = true := by cases z : isTx f sc <;> simp_all
  rw [q7', zb1_t] at r1
  have t := TF_of q7' d.v d.sz f0 s0
  have sz := t.sz
  have h1 : MT S1 f sc L := by
    apply MT.mk1
    case t => exact t
    case w => exact w
    case s => exact e1 q7'
    case d =>
      obtain ⟨d_v, d_sz, d_fm, d_tg, d_ct, d_wh⟩ := d
      apply MD.mk1 <;> first | assumption | (rw [f1 _ (by decide)]; assumption)
    case l =>
      obtain ⟨l_made, l_endw, l_ad, l_md, l_sp, l_kd, l_ds, l_po, l_na, l_am, l_da, l_ht, l_ud, l_bg, l_pts, l_aps, l_tks⟩ := l
      apply ML.mk1 <;> (rw [f1 _ (by decide)]; assumption)
  have hb1 : S1 34 2 = by1 := by rw [f1 _ (by decide)]; exact hb
  have pp1 : S1 34 47 = fhp f (fsize f) := by rw [f1 _ (by decide)]; exact pp
  obtain ⟨S2, r2, f2, i2, s2, e2⟩ := m_areThere h1
  unfold zR at r2
  have h2 := h1.fr f2
  have m2 := m1.tr f2.m1
  obtain ⟨V, hV⟩ : ∃ V, fph L f by1 = V := ⟨_, rfl⟩
  rw [hV]
  unfold fph at hV
  by_cases th : there L f = true
  case neg =>
    have th' : there L f = false := by cases z : there L f <;> simp_all
    rw [if_pos th'] at hV
    subst hV
    refine ⟨S2, fun Q => ?_, m2, fun _ _ x => by omega⟩
    rw [th', zb1_f] at r2
    simp (disch := omega) only [bcd, true_and, and_true, and_self, if_true, if_false, ite_true, ite_false, reduceIte, Int.reduceEq, Int.reduceNe, Int.reduceLT, Int.reduceLE, Int.reduceAdd, Int.reduceSub, Int.reduceMul, Int.reduceNeg, Int.reduceMod, Int.reduceDiv, Int.reduceToNat, Nat.reduceAdd, Nat.reduceLeDiff, List.length_cons, List.length_nil, not_false_eq_true, not_true_eq_false, ne_eq, or_false, false_or, or_self, false_and, and_false, or_true, true_or, ite_self, Int.add_sub_cancel, Int.sub_add_cancel, b_lc1, b_lc2, b_lc3, b_lc4, b_lc5, up_eq, up_ei, up_n1, up_n2, W32i, W8i, W16i, W64i, if_ps, if_ng, and_tr, fil_n1, fil_in, fil_out, le_tt, le_ff, lt_tt, lt_ff, eq_tt, eq_ff, M282, pp, hb, r1, r2]
  rw [th, zb1_t] at r2
  rw [if_neg (by rw [th]; decide)] at hV
  obtain ⟨e21, e22⟩ := e2 th
  have mi2 : MI S2 f := by
    apply MI.mk1
    case im => exact i2
    case sm => exact s2
    case ii => exact e22
    case ss => exact e21
  have k4 : S2 142 4 = w0 f 4 := h2.s.fl 4 (by omega)
  have k3 : S2 142 3 = w0 f 3 := h2.s.fl 3 (by omega)
  have a4 := t.fd 4 (by omega)
  have a3 := t.fd 3 (by omega)
  have a2 := t.fd 2 (by omega)
  have nk := nk_in t.v (by omega) a4.2 (Or.inr t.l4.1) rfl
  have l4 := t.l4
  have l2 := t.l2
  have e4 : nch f (w0 f 4) = nc f (w0 f 4) := by unfold nch; rw [if_neg (by omega), if_pos (by omega)]
  have x1 : wi f (w0 f 4) 1 = w0 f 4 + 2 := by
    rw [wi, show wi f (w0 f 4) 0 = w0 f 4 + 1 from rfl, (nW_of f 1 (w0 f 4 + 1) t.v (by omega) (by omega)).l1 (by rw [t.vf.1]; omega)]; omega
  have wt := fun Q => m_within h2.d (w0 f 4) 1 (by omega) a4.2 (by omega) (by omega) Q
  rw [show (1 : Int).toNat = 1 by rfl, x1] at wt
  have g1 := h2.d.tg (w0 f 4 + 1) (by omega) (by omega)
  have g2 := h2.d.tg (w0 f 4 + 2) (by omega) (by omega)
  have g3 := h2.d.tg (w0 f 3) (by omega) a3.2
  have ht := h2.l.ht
  have hb2 : S2 34 2 = by1 := by rw [f2.2 _ (by decide) (by decide)]; exact hb1
  have dv := zidiv8 b0.1 b0.2
  by_cases q9 : L.ht < nt f (w0 f 4 + 1) ∨ nt f (w0 f 4 + 2) < L.ht
  case pos =>
    rw [if_pos q9] at hV
    subst hV
    refine ⟨S2, fun Q => ?_, m2, fun _ _ x => by omega⟩
    by_cases q : L.ht < nt f (w0 f 4 + 1)
    · simp (disch := omega) only [bcd, true_and, and_true, and_self, if_true, if_false, ite_true, ite_false, reduceIte, Int.reduceEq, Int.reduceNe, Int.reduceLT, Int.reduceLE, Int.reduceAdd, Int.reduceSub, Int.reduceMul, Int.reduceNeg, Int.reduceMod, Int.reduceDiv, Int.reduceToNat, Nat.reduceAdd, Nat.reduceLeDiff, List.length_cons, List.length_nil, not_false_eq_true, not_true_eq_false, ne_eq, or_false, false_or, or_self, false_and, and_false, or_true, true_or, ite_self, Int.add_sub_cancel, Int.sub_add_cancel, b_lc1, b_lc2, b_lc3, b_lc4, b_lc5, up_eq, up_ei, up_n1, up_n2, W32i, W8i, W16i, W64i, if_ps, if_ng, and_tr, fil_n1, fil_in, fil_out, le_tt, le_ff, lt_tt, lt_ff, eq_tt, eq_ff, M282, pp, hb, r1, r2, k4, ht, g1]
    · have q' := q9.resolve_left q
      simp (disch := omega) only [bcd, true_and, and_true, and_self, if_true, if_false, ite_true, ite_false, reduceIte, Int.reduceEq, Int.reduceNe, Int.reduceLT, Int.reduceLE, Int.reduceAdd, Int.reduceSub, Int.reduceMul, Int.reduceNeg, Int.reduceMod, Int.reduceDiv, Int.reduceToNat, Nat.reduceAdd, Nat.reduceLeDiff, List.length_cons, List.length_nil, not_false_eq_true, not_true_eq_false, ne_eq, or_false, false_or, or_self, false_and, and_false, or_true, true_or, ite_self, Int.add_sub_cancel, Int.sub_add_cancel, b_lc1, b_lc2, b_lc3, b_lc4, b_lc5, up_eq, up_ei, up_n1, up_n2, W32i, W8i, W16i, W64i, if_ps, if_ng, and_tr, fil_n1, fil_in, fil_out, le_tt, le_ff, lt_tt, lt_ff, eq_tt, eq_ff, M282, pp, hb, r1, r2, k4, ht, g1, wt, g2]
  rw [if_neg q9] at hV
  have q91 : ¬ L.ht < nt f (w0 f 4 + 1) := fun x => q9 (Or.inl x)
  have q92 : ¬ nt f (w0 f 4 + 2) < L.ht := fun x => q9 (Or.inr x)
  by_cases q10 : (nt f (w0 f 3)) < 10 + by1 / 8
  case pos =>
    rw [if_pos q10] at hV
    subst hV
    refine ⟨S2, fun Q => ?_, m2, fun _ _ x => by omega⟩
    simp (disch := omega) only [bcd, true_and, and_true, and_self, if_true, if_false, ite_true, ite_false, reduceIte, Int.reduceEq, Int.reduceNe, Int.reduceLT, Int.reduceLE, Int.reduceAdd, Int.reduceSub, Int.reduceMul, Int.reduceNeg, Int.reduceMod, Int.reduceDiv, Int.reduceToNat, Nat.reduceAdd, Nat.reduceLeDiff, List.length_cons, List.length_nil, not_false_eq_true, not_true_eq_false, ne_eq, or_false, false_or, or_self, false_and, and_false, or_true, true_or, ite_self, Int.add_sub_cancel, Int.sub_add_cancel, b_lc1, b_lc2, b_lc3, b_lc4, b_lc5, up_eq, up_ei, up_n1, up_n2, W32i, W8i, W16i, W64i, if_ps, if_ng, and_tr, fil_n1, fil_in, fil_out, le_tt, le_ff, lt_tt, lt_ff, eq_tt, eq_ff, M282, pp, hb, r1, r2, k4, ht, g1, wt, g2, k3, g3, hb2, dv]
  rw [if_neg q10] at hV
  obtain ⟨S3, vb, r3, f3, vv, vi⟩ := m_isBal h2 h64 mi2 th
  unfold zR at r3
  have h3 := h2.su f3
  have mi3 := mi2.su f3
  have m3 := m2.tr f3.m1
  rcases vv with vv | vv
  · have nb : ¬ bal L f := fun x => by have := vi.mpr x; omega
    rw [if_ps nb] at hV
    subst hV vv
    refine ⟨S3, fun Q => ?_, m3, fun _ _ x => by omega⟩
    simp (disch := omega) only [bcd, true_and, and_true, and_self, if_true, if_false, ite_true, ite_false, reduceIte, Int.reduceEq, Int.reduceNe, Int.reduceLT, Int.reduceLE, Int.reduceAdd, Int.reduceSub, Int.reduceMul, Int.reduceNeg, Int.reduceMod, Int.reduceDiv, Int.reduceToNat, Nat.reduceAdd, Nat.reduceLeDiff, List.length_cons, List.length_nil, not_false_eq_true, not_true_eq_false, ne_eq, or_false, false_or, or_self, false_and, and_false, or_true, true_or, ite_self, Int.add_sub_cancel, Int.sub_add_cancel, b_lc1, b_lc2, b_lc3, b_lc4, b_lc5, up_eq, up_ei, up_n1, up_n2, W32i, W8i, W16i, W64i, if_ps, if_ng, and_tr, fil_n1, fil_in, fil_out, le_tt, le_ff, lt_tt, lt_ff, eq_tt, eq_ff, M282, pp, hb, r1, r2, k4, ht, g1, wt, g2, k3, g3, hb2, dv, r3]
  rw [if_ng (fun x => x (vi.mp vv))] at hV
  subst vv
  have r4 := fun Q => m_areSigned h3 mi3 th Q
  by_cases q12 : sgd L f = false
  case pos =>
    rw [if_pos q12] at hV
    subst hV
    refine ⟨S3, fun Q => ?_, m3, fun _ _ x => by omega⟩
    rw [q12, zb1_f] at r4
    simp (disch := omega) only [bcd, true_and, and_true, and_self, if_true, if_false, ite_true, ite_false, reduceIte, Int.reduceEq, Int.reduceNe, Int.reduceLT, Int.reduceLE, Int.reduceAdd, Int.reduceSub, Int.reduceMul, Int.reduceNeg, Int.reduceMod, Int.reduceDiv, Int.reduceToNat, Nat.reduceAdd, Nat.reduceLeDiff, List.length_cons, List.length_nil, not_false_eq_true, not_true_eq_false, ne_eq, or_false, false_or, or_self, false_and, and_false, or_true, true_or, ite_self, Int.add_sub_cancel, Int.sub_add_cancel, b_lc1, b_lc2, b_lc3, b_lc4, b_lc5, up_eq, up_ei, up_n1, up_n2, W32i, W8i, W16i, W64i, if_ps, if_ng, and_tr, fil_n1, fil_in, fil_out, le_tt, le_ff, lt_tt, lt_ff, eq_tt, eq_ff, M282, pp, hb, r1, r2, k4, ht, g1, wt, g2, k3, g3, hb2, dv, r3, r4]
  rw [if_neg q12] at hV
  have q12' : sgd L f = true := by cases z : sgd L f <;> simp_all
  rw [q12', zb1_t] at r4
  have r5 := fun Q => m_has h3 mi3 th Q
  have r6 := fun Q => m_isCov h3 mi3 th Q
  have r7 := fun Q => m_areLg h3 Q
  by_cases q13 : nds L f = true ∧ cvd L f = false
  case pos =>
    rw [if_pos q13] at hV
    subst hV
    refine ⟨S3, fun Q => ?_, m3, fun _ _ x => by omega⟩
    rw [q13.1, zb1_t] at r5
    rw [q13.2, zb1_f] at r6
    simp (disch := omega) only [bcd, true_and, and_true, and_self, if_true, if_false, ite_true, ite_false, reduceIte, Int.reduceEq, Int.reduceNe, Int.reduceLT, Int.reduceLE, Int.reduceAdd, Int.reduceSub, Int.reduceMul, Int.reduceNeg, Int.reduceMod, Int.reduceDiv, Int.reduceToNat, Nat.reduceAdd, Nat.reduceLeDiff, List.length_cons, List.length_nil, not_false_eq_true, not_true_eq_false, ne_eq, or_false, false_or, or_self, false_and, and_false, or_true, true_or, ite_self, Int.add_sub_cancel, Int.sub_add_cancel, b_lc1, b_lc2, b_lc3, b_lc4, b_lc5, up_eq, up_ei, up_n1, up_n2, W32i, W8i, W16i, W64i, if_ps, if_ng, and_tr, fil_n1, fil_in, fil_out, le_tt, le_ff, lt_tt, lt_ff, eq_tt, eq_ff, M282, pp, hb, r1, r2, k4, ht, g1, wt, g2, k3, g3, hb2, dv, r3, r4, r5, r6]
  rw [if_neg q13] at hV
  by_cases q14 : lgd f = false
  case pos =>
    rw [if_pos q14] at hV
    subst hV
    refine ⟨S3, fun Q => ?_, m3, fun _ _ x => by omega⟩
    rw [q14, zb1_f] at r7
    cases z : nds L f
    · simp only [z, zb1_f] at r5
      simp (disch := omega) only [bcd, true_and, and_true, and_self, if_true, if_false, ite_true, ite_false, reduceIte, Int.reduceEq, Int.reduceNe, Int.reduceLT, Int.reduceLE, Int.reduceAdd, Int.reduceSub, Int.reduceMul, Int.reduceNeg, Int.reduceMod, Int.reduceDiv, Int.reduceToNat, Nat.reduceAdd, Nat.reduceLeDiff, List.length_cons, List.length_nil, not_false_eq_true, not_true_eq_false, ne_eq, or_false, false_or, or_self, false_and, and_false, or_true, true_or, ite_self, Int.add_sub_cancel, Int.sub_add_cancel, b_lc1, b_lc2, b_lc3, b_lc4, b_lc5, up_eq, up_ei, up_n1, up_n2, W32i, W8i, W16i, W64i, if_ps, if_ng, and_tr, fil_n1, fil_in, fil_out, le_tt, le_ff, lt_tt, lt_ff, eq_tt, eq_ff, M282, pp, hb, r1, r2, k4, ht, g1, wt, g2, k3, g3, hb2, dv, r3, r4, r5, r7]
    · have c1 : cvd L f = true := by cases y : cvd L f <;> simp_all
      simp only [z, c1, zb1_t] at r5 r6
      simp (disch := omega) only [bcd, true_and, and_true, and_self, if_true, if_false, ite_true, ite_false, reduceIte, Int.reduceEq, Int.reduceNe, Int.reduceLT, Int.reduceLE, Int.reduceAdd, Int.reduceSub, Int.reduceMul, Int.reduceNeg, Int.reduceMod, Int.reduceDiv, Int.reduceToNat, Nat.reduceAdd, Nat.reduceLeDiff, List.length_cons, List.length_nil, not_false_eq_true, not_true_eq_false, ne_eq, or_false, false_or, or_self, false_and, and_false, or_true, true_or, ite_self, Int.add_sub_cancel, Int.sub_add_cancel, b_lc1, b_lc2, b_lc3, b_lc4, b_lc5, up_eq, up_ei, up_n1, up_n2, W32i, W8i, W16i, W64i, if_ps, if_ng, and_tr, fil_n1, fil_in, fil_out, le_tt, le_ff, lt_tt, lt_ff, eq_tt, eq_ff, M282, pp, hb, r1, r2, k4, ht, g1, wt, g2, k3, g3, hb2, dv, r3, r4, r5, r6, r7]
  rw [if_neg q14] at hV
  have q14' : lgd f = true := by cases z : lgd f <;> simp_all
  rw [q14', zb1_t] at r7
  have nn := w.n
  have md := h3.l.made
  have k2 : S3 142 2 = w0 f 2 := h3.s.fl 2 (by omega)
  have ct := h3.d.ct (w0 f 2) (by omega) a2.2
  by_cases q15 : 1024 < L.n + nc f (w0 f 2)
  case pos =>
    rw [if_pos q15] at hV
    subst hV
    refine ⟨S3, fun Q => ?_, m3, fun _ _ x => by omega⟩
    cases z : nds L f
    · simp only [z, zb1_f] at r5
      simp (disch := omega) only [bcd, true_and, and_true, and_self, if_true, if_false, ite_true, ite_false, reduceIte, Int.reduceEq, Int.reduceNe, Int.reduceLT, Int.reduceLE, Int.reduceAdd, Int.reduceSub, Int.reduceMul, Int.reduceNeg, Int.reduceMod, Int.reduceDiv, Int.reduceToNat, Nat.reduceAdd, Nat.reduceLeDiff, List.length_cons, List.length_nil, not_false_eq_true, not_true_eq_false, ne_eq, or_false, false_or, or_self, false_and, and_false, or_true, true_or, ite_self, Int.add_sub_cancel, Int.sub_add_cancel, b_lc1, b_lc2, b_lc3, b_lc4, b_lc5, up_eq, up_ei, up_n1, up_n2, W32i, W8i, W16i, W64i, if_ps, if_ng, and_tr, fil_n1, fil_in, fil_out, le_tt, le_ff, lt_tt, lt_ff, eq_tt, eq_ff, M282, pp, hb, r1, r2, k4, ht, g1, wt, g2, k3, g3, hb2, dv, r3, r4, r5, r7, md, k2, ct]
    · have c1 : cvd L f = true := by cases y : cvd L f <;> simp_all
      simp only [z, c1, zb1_t] at r5 r6
      simp (disch := omega) only [bcd, true_and, and_true, and_self, if_true, if_false, ite_true, ite_false, reduceIte, Int.reduceEq, Int.reduceNe, Int.reduceLT, Int.reduceLE, Int.reduceAdd, Int.reduceSub, Int.reduceMul, Int.reduceNeg, Int.reduceMod, Int.reduceDiv, Int.reduceToNat, Nat.reduceAdd, Nat.reduceLeDiff, List.length_cons, List.length_nil, not_false_eq_true, not_true_eq_false, ne_eq, or_false, false_or, or_self, false_and, and_false, or_true, true_or, ite_self, Int.add_sub_cancel, Int.sub_add_cancel, b_lc1, b_lc2, b_lc3, b_lc4, b_lc5, up_eq, up_ei, up_n1, up_n2, W32i, W8i, W16i, W64i, if_ps, if_ng, and_tr, fil_n1, fil_in, fil_out, le_tt, le_ff, lt_tt, lt_ff, eq_tt, eq_ff, M282, pp, hb, r1, r2, k4, ht, g1, wt, g2, k3, g3, hb2, dv, r3, r4, r5, r6, r7, md, k2, ct]
  rw [if_neg q15] at hV
  cases z : nds L f
  · rw [if_neg (fun x => by rw [z] at x; cases x.1)] at hV
    subst hV
    refine ⟨S3, fun Q => ?_, m3, fun _ _ _ => ⟨h3, mi3⟩⟩
    simp only [z, zb1_f] at r5
    simp (disch := omega) only [bcd, true_and, and_true, and_self, if_true, if_false, ite_true, ite_false, reduceIte, Int.reduceEq, Int.reduceNe, Int.reduceLT, Int.reduceLE, Int.reduceAdd, Int.reduceSub, Int.reduceMul, Int.reduceNeg, Int.reduceMod, Int.reduceDiv, Int.reduceToNat, Nat.reduceAdd, Nat.reduceLeDiff, List.length_cons, List.length_nil, not_false_eq_true, not_true_eq_false, ne_eq, or_false, false_or, or_self, false_and, and_false, or_true, true_or, ite_self, Int.add_sub_cancel, Int.sub_add_cancel, b_lc1, b_lc2, b_lc3, b_lc4, b_lc5, up_eq, up_ei, up_n1, up_n2, W32i, W8i, W16i, W64i, if_ps, if_ng, and_tr, fil_n1, fil_in, fil_out, le_tt, le_ff, lt_tt, lt_ff, eq_tt, eq_ff, M282, pp, hb, r1, r2, k4, ht, g1, wt, g2, k3, g3, hb2, dv, r3, r4, r5, r7, md, k2, ct]
  · have c1 : cvd L f = true := by cases y : cvd L f <;> simp_all
    simp only [z, c1, zb1_t] at r5 r6
    obtain ⟨S4, r8, f4⟩ := m_ctxN h3 mi3 th
    unfold zR at r8
    have m4 := m3.tr f4.m1
    by_cases q16 : 200 < ctxN f (kN L f)
    · rw [if_pos ⟨z, q16⟩] at hV
      subst hV
      refine ⟨S4, fun Q => ?_, m4, fun _ _ x => by omega⟩
      simp (disch := omega) only [bcd, true_and, and_true, and_self, if_true, if_false, ite_true, ite_false, reduceIte, Int.reduceEq, Int.reduceNe, Int.reduceLT, Int.reduceLE, Int.reduceAdd, Int.reduceSub, Int.reduceMul, Int.reduceNeg, Int.reduceMod, Int.reduceDiv, Int.reduceToNat, Nat.reduceAdd, Nat.reduceLeDiff, List.length_cons, List.length_nil, not_false_eq_true, not_true_eq_false, ne_eq, or_false, false_or, or_self, false_and, and_false, or_true, true_or, ite_self, Int.add_sub_cancel, Int.sub_add_cancel, b_lc1, b_lc2, b_lc3, b_lc4, b_lc5, up_eq, up_ei, up_n1, up_n2, W32i, W8i, W16i, W64i, if_ps, if_ng, and_tr, fil_n1, fil_in, fil_out, le_tt, le_ff, lt_tt, lt_ff, eq_tt, eq_ff, M282, pp, hb, r1, r2, k4, ht, g1, wt, g2, k3, g3, hb2, dv, r3, r4, r5, r6, r7, md, k2, ct, r8]
    · rw [if_neg (fun x => q16 x.2)] at hV
      subst hV
      refine ⟨S4, fun Q => ?_, m4, fun _ _ _ => ⟨h3.su f4, mi3.su f4⟩⟩
      simp (disch := omega) only [bcd, true_and, and_true, and_self, if_true, if_false, ite_true, ite_false, reduceIte, Int.reduceEq, Int.reduceNe, Int.reduceLT, Int.reduceLE, Int.reduceAdd, Int.reduceSub, Int.reduceMul, Int.reduceNeg, Int.reduceMod, Int.reduceDiv, Int.reduceToNat, Nat.reduceAdd, Nat.reduceLeDiff, List.length_cons, List.length_nil, not_false_eq_true, not_true_eq_false, ne_eq, or_false, false_or, or_self, false_and, and_false, or_true, true_or, ite_self, Int.add_sub_cancel, Int.sub_add_cancel, b_lc1, b_lc2, b_lc3, b_lc4, b_lc5, up_eq, up_ei, up_n1, up_n2, W32i, W8i, W16i, W64i, if_ps, if_ng, and_tr, fil_n1, fil_in, fil_out, le_tt, le_ff, lt_tt, lt_ff, eq_tt, eq_ff, M282, pp, hb, r1, r2, k4, ht, g1, wt, g2, k3, g3, hb2, dv, r3, r4, r5, r6, r7, md, k2, ct, r8]
