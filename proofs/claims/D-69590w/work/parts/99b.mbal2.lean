-- uses: 99a
def ttp (L : Led) (p m : Int) : Int := (if p = 0 ∧ m = 0 then L.pot else 0) + L.tot p m
theorem ttp_b {L : Led} (w : LW L) (p m : Int) : 0 ≤ ttp L p m ∧ ttp L p m ≤ 4611686018427387904 ∧ L.tot p m ≤ ttp L p m := by
  have a := w.totb p m
  have b := w.tot0 p m
  have c := w.pot0
  unfold ttp
  split at a
  · rename_i q; rw [if_pos q]; omega
  · rename_i q; rw [if_neg q]; omega
def mbB (L : Led) (S : Sto) (gi go gm : Int → Int → Int) (i : Nat) : Bool := decide (gm (S 145 i) (S 146 i) ≤ 4611686018427387904 - ttp L (S 145 i) (S 146 i) ∧ gi (S 145 i) (S 146 i) + gm (S 145 i) (S 146 i) = go (S 145 i) (S 146 i))
theorem m_fin {S : Sto} {f : F} {sc n bs : Int} {L : Led} {gi go gm : Int → Int → Int} (h : MT S f sc L) (h64 : L.ht ≤ 64) (b : MS S n gi go gm) (gi0 : ∀ p m, 0 ≤ gi p m ∧ gi p m ≤ L.tot p m) (gm0 : ∀ p m, -4611686018427387904 ≤ gm p m ∧ gm p m ≤ 4611686018427387904) (Q : ZQ) : ∀ (c i : Nat) (d : Bool) (y4 y5 y6 : AV), (i : Int) + c = n → zG Cd 296 (Cd 296 223) [(34, 34), (0, bs), (0, zb1 d), (0, (i : Int)), y4, y5, y6] [] S Q = Q S (0, zb1 (d && zall (mbB L S gi go gm) c i)) := by
  have n1 := b.n1
  have sz := b.sz
  intro c
  induction c with
  | zero =>
    intro i d y4 y5 y6 hi
    rw [zall, Bool.and_true, L296_223]
    cases d <;> simp only [zb1_t, zb1_f] <;> simp (disch := omega) only [bcd, true_and, and_true, and_self, if_true, if_false, ite_true, ite_false, reduceIte, Int.reduceEq, Int.reduceNe, Int.reduceLT, Int.reduceLE, Int.reduceAdd, Int.reduceSub, Int.reduceMul, Int.reduceNeg, Int.reduceMod, Int.reduceDiv, Int.reduceToNat, Nat.reduceAdd, Nat.reduceLeDiff, List.length_cons, List.length_nil, not_false_eq_true, not_true_eq_false, ne_eq, or_false, false_or, or_self, false_and, and_false, or_true, true_or, ite_self, Int.add_sub_cancel, Int.sub_add_cancel, b_lc1, b_lc2, b_lc3, b_lc4, b_lc5, up_eq, up_ei, up_n1, up_n2, W32i, W8i, W16i, W64i, if_ps, if_ng, and_tr, fil_n1, fil_in, fil_out, le_tt, le_ff, lt_tt, lt_ff, eq_tt, eq_ff, M296, sz]
  | succ c ih =>
    intro i d y4 y5 y6 hi
    have tt := fun Q => m_totL h.l h.w h64 Q (S 145 i) (S 146 i)
    have e1 := b.ri.at1 i (by omega) (by omega)
    have e2 := b.ro.at1 i (by omega) (by omega)
    have e3 := b.rm.at1 i (by omega) (by omega)
    have tb := ttp_b h.w (S 145 i) (S 146 i)
    have g1 := gi0 (S 145 i) (S 146 i)
    have g2 := gm0 (S 145 i) (S 146 i)
    have et : w64 ((if S 145 i = 0 ∧ S 146 i = 0 then L.pot else 0) + L.tot (S 145 i) (S 146 i)) = ttp L (S 145 i) (S 146 i) := W64i (x := ttp L (S 145 i) (S 146 i)) (by omega) (by omega)
    rw [et] at tt
    rw [zall]
    obtain ⟨A, hA⟩ : ∃ A, mbB L S gi go gm i = A := ⟨_, rfl⟩
    have hA' := hA
    unfold mbB at hA
    rw [e1, e2, e3] at hA
    rw [e1] at g1
    rw [e3] at g2
    obtain ⟨T, hT⟩ : ∃ T, ttp L (S 145 i) (S 146 i) = T := ⟨_, rfl⟩
    rw [hT] at tt tb hA
    rw [hA', ← Bool.and_assoc]
    by_cases q1 : S 149 i ≤ 4611686018427387904 - T
    · have I := ih (i + 1) (d && A) (1, T) (9, 0) (0, 1) (by omega)
      rw [show ((i + 1 : Nat) : Int) = (i : Int) + 1 by omega] at I
      rw [← I]
      by_cases q2 : S 147 i + S 149 i = S 148 i
      · rw [← hA, show decide (S 149 (i : Int) ≤ 4611686018427387904 - T ∧ S 147 (i : Int) + S 149 i = S 148 i) = true from decide_eq_true ⟨q1, q2⟩, Bool.and_true]
        conv => lhs; rw [L296_223]
        cases d <;> simp only [zb1_t, zb1_f] <;> simp (disch := omega) only [bcd, true_and, and_true, and_self, if_true, if_false, ite_true, ite_false, reduceIte, Int.reduceEq, Int.reduceNe, Int.reduceLT, Int.reduceLE, Int.reduceAdd, Int.reduceSub, Int.reduceMul, Int.reduceNeg, Int.reduceMod, Int.reduceDiv, Int.reduceToNat, Nat.reduceAdd, Nat.reduceLeDiff, List.length_cons, List.length_nil, not_false_eq_true, not_true_eq_false, ne_eq, or_false, false_or, or_self, false_and, and_false, or_true, true_or, ite_self, Int.add_sub_cancel, Int.sub_add_cancel, b_lc1, b_lc2, b_lc3, b_lc4, b_lc5, up_eq, up_ei, up_n1, up_n2, W32i, W8i, W16i, W64i, if_ps, if_ng, and_tr, fil_n1, fil_in, fil_out, le_tt, le_ff, lt_tt, lt_ff, eq_tt, eq_ff, sz, tt] <;> iterate 14 (try (simp only [M296]; simp (disch := omega) only [bcd, true_and, and_true, and_self, if_true, if_false, ite_true, ite_false, reduceIte, Int.reduceEq, Int.reduceNe, Int.reduceLT, Int.reduceLE, Int.reduceAdd, Int.reduceSub, Int.reduceMul, Int.reduceNeg, Int.reduceMod, Int.reduceDiv, Int.reduceToNat, Nat.reduceAdd, Nat.reduceLeDiff, List.length_cons, List.length_nil, not_false_eq_true, not_true_eq_false, ne_eq, or_false, false_or, or_self, false_and, and_false, or_true, true_or, ite_self, Int.add_sub_cancel, Int.sub_add_cancel, b_lc1, b_lc2, b_lc3, b_lc4, b_lc5, up_eq, up_ei, up_n1, up_n2, W32i, W8i, W16i, W64i, if_ps, if_ng, and_tr, fil_n1, fil_in, fil_out, le_tt, le_ff, lt_tt, lt_ff, eq_tt, eq_ff, q2]))
      · rw [← hA, show decide (S 149 (i : Int) ≤ 4611686018427387904 - T ∧ S 147 (i : Int) + S 149 i = S 148 i) = false from decide_eq_false (fun x => q2 x.2), Bool.and_false]
        conv => lhs; rw [L296_223]
        cases d <;> simp only [zb1_t, zb1_f] <;> simp (disch := omega) only [bcd, true_and, and_true, and_self, if_true, if_false, ite_true, ite_false, reduceIte, Int.reduceEq, Int.reduceNe, Int.reduceLT, Int.reduceLE, Int.reduceAdd, Int.reduceSub, Int.reduceMul, Int.reduceNeg, Int.reduceMod, Int.reduceDiv, Int.reduceToNat, Nat.reduceAdd, Nat.reduceLeDiff, List.length_cons, List.length_nil, not_false_eq_true, not_true_eq_false, ne_eq, or_false, false_or, or_self, false_and, and_false, or_true, true_or, ite_self, Int.add_sub_cancel, Int.sub_add_cancel, b_lc1, b_lc2, b_lc3, b_lc4, b_lc5, up_eq, up_ei, up_n1, up_n2, W32i, W8i, W16i, W64i, if_ps, if_ng, and_tr, fil_n1, fil_in, fil_out, le_tt, le_ff, lt_tt, lt_ff, eq_tt, eq_ff, sz, tt] <;> iterate 14 (try (simp only [M296]; simp (disch := omega) only [bcd, true_and, and_true, and_self, if_true, if_false, ite_true, ite_false, reduceIte, Int.reduceEq, Int.reduceNe, Int.reduceLT, Int.reduceLE, Int.reduceAdd, Int.reduceSub, Int.reduceMul, Int.reduceNeg, Int.reduceMod, Int.reduceDiv, Int.reduceToNat, Nat.reduceAdd, Nat.reduceLeDiff, List.length_cons, List.length_nil, not_false_eq_true, not_true_eq_false, ne_eq, or_false, false_or, or_self, false_and, and_false, or_true, true_or, ite_self, Int.add_sub_cancel, Int.sub_add_cancel, b_lc1, b_lc2, b_lc3, b_lc4, b_lc5, up_eq, up_ei, up_n1, up_n2, W32i, W8i, W16i, W64i, if_ps, if_ng, and_tr, fil_n1, fil_in, fil_out, le_tt, le_ff, lt_tt, lt_ff, eq_tt, eq_ff, q2]))
    · have I := ih (i + 1) (d && A) (1, T) (9, 0) (0, 0) (by omega)
      rw [show ((i + 1 : Nat) : Int) = (i : Int) + 1 by omega] at I
      rw [← I]
      rw [← hA, show decide (S 149 (i : Int) ≤ 4611686018427387904 - T ∧ S 147 (i : Int) + S 149 i = S 148 i) = false from decide_eq_false (fun x => q1 x.1), Bool.and_false]
      conv => lhs; rw [L296_223]
      cases d <;> simp only [zb1_t, zb1_f] <;> simp (disch := omega) only [bcd, true_and, and_true, and_self, if_true, if_false, ite_true, ite_false, reduceIte, Int.reduceEq, Int.reduceNe, Int.reduceLT, Int.reduceLE, Int.reduceAdd, Int.reduceSub, Int.reduceMul, Int.reduceNeg, Int.reduceMod, Int.reduceDiv, Int.reduceToNat, Nat.reduceAdd, Nat.reduceLeDiff, List.length_cons, List.length_nil, not_false_eq_true, not_true_eq_false, ne_eq, or_false, false_or, or_self, false_and, and_false, or_true, true_or, ite_self, Int.add_sub_cancel, Int.sub_add_cancel, b_lc1, b_lc2, b_lc3, b_lc4, b_lc5, up_eq, up_ei, up_n1, up_n2, W32i, W8i, W16i, W64i, if_ps, if_ng, and_tr, fil_n1, fil_in, fil_out, le_tt, le_ff, lt_tt, lt_ff, eq_tt, eq_ff, sz, tt] <;> iterate 14 (try (simp only [M296]; simp (disch := omega) only [bcd, true_and, and_true, and_self, if_true, if_false, ite_true, ite_false, reduceIte, Int.reduceEq, Int.reduceNe, Int.reduceLT, Int.reduceLE, Int.reduceAdd, Int.reduceSub, Int.reduceMul, Int.reduceNeg, Int.reduceMod, Int.reduceDiv, Int.reduceToNat, Nat.reduceAdd, Nat.reduceLeDiff, List.length_cons, List.length_nil, not_false_eq_true, not_true_eq_false, ne_eq, or_false, false_or, or_self, false_and, and_false, or_true, true_or, ite_self, Int.add_sub_cancel, Int.sub_add_cancel, b_lc1, b_lc2, b_lc3, b_lc4, b_lc5, up_eq, up_ei, up_n1, up_n2, W32i, W8i, W16i, W64i, if_ps, if_ng, and_tr, fil_n1, fil_in, fil_out, le_tt, le_ff, lt_tt, lt_ff, eq_tt, eq_ff, sz]))
/-- the plain law: both ways of asking come to the same -/
theorem bal_m {S : Sto} {f : F} {sc n : Int} {L : Led} (t : TF f sc) (w : LW L) (th : there L f = true) (b : MS S n (gIn L f (nc f (w0 f 0)).toNat) (gsat (gO f)) (gacc g0 (kF f (w0 f 5)) (nc f (w0 f 5)).toNat)) : zall (mbB L S (gIn L f (nc f (w0 f 0)).toNat) (gsat (gO f)) (gacc g0 (kF f (w0 f 5)) (nc f (w0 f 5)).toNat)) n.toNat 0 = true ↔ bal L f := by
  obtain ⟨t1, t2, t3, t4, t5⟩ := there_1 th
  have l0 := t.l0
  have l5 := t.l5
  have s0 := t.s0
  have n0 := b.ks.n0
  have mcs := fun i hi => t.mc i hi
  have gi : ∀ p m, 0 ≤ gIn L f (nc f (w0 f 0)).toNat p m ∧ gIn L f (nc f (w0 f 0)).toNat p m ≤ L.tot p m := by
    intro p m
    rw [gIn_s w p m (nc f (w0 f 0)).toNat (fun j hj => t1 j (by omega))]
    exact sIn_b w p m (nc f (w0 f 0)).toNat (fun j hj => t1 j (by omega)) (fun j k x y => t2 j k x (by omega))
  have gm : ∀ p m, gM L f p m = gIn L f (nc f (w0 f 0)).toNat p m + gacc g0 (kF f (w0 f 5)) (nc f (w0 f 5)).toNat p m := fun p m => gacc_add _ _ p m _
  have at1 : ∀ j : Nat, (j : Int) < nc f (w0 f 5) → gacc g0 (kF f (w0 f 5)) (nc f (w0 f 5)).toNat (nt f (wi f (w0 f 5) j + 1)) (nt f (wi f (w0 f 5) j + 2)) = nt f (wi f (w0 f 5) j + 3) := fun j hj => gacc_at (k := kF f (w0 f 5)) (nc f (w0 f 5)).toNat j (fun i j a b => kF_ne mcs i j a (by omega)) (by omega)
  rw [zall_iff]
  constructor
  · intro h
    have hk : ∀ i, 0 ≤ i → i < n → gacc g0 (kF f (w0 f 5)) (nc f (w0 f 5)).toNat (S 145 i) (S 146 i) ≤ 4611686018427387904 - ttp L (S 145 i) (S 146 i) ∧ gIn L f (nc f (w0 f 0)).toNat (S 145 i) (S 146 i) + gacc g0 (kF f (w0 f 5)) (nc f (w0 f 5)).toNat (S 145 i) (S 146 i) = gsat (gO f) (S 145 i) (S 146 i) := by
      intro i a c
      have := of_decide_eq_true (h i.toNat (by omega) (by omega))
      rw [show ((i.toNat : Nat) : Int) = i by omega] at this
      exact this
    constructor
    · rw [zall_iff]
      intro j _ hj
      have cf := t.mc j (by omega)
      unfold mck
      apply decide_eq_true
      have e := at1 j (by omega)
      have ex : ∃ i, 0 ≤ i ∧ i < n ∧ S 145 i = nt f (wi f (w0 f 5) j + 1) ∧ S 146 i = nt f (wi f (w0 f 5) j + 2) := by
        apply Classical.byContradiction
        intro H
        have := b.rm.no1 (nt f (wi f (w0 f 5) j + 1)) (nt f (wi f (w0 f 5) j + 2)) (fun i a c x => H ⟨i, a, c, x⟩)
        rw [e] at this
        exact cf.am.1 this
      obtain ⟨i, i0, i1, i2, i3⟩ := ex
      have x := (hk i i0 i1).1
      rw [i2, i3, e] at x
      have y := (ttp_b w (nt f (wi f (w0 f 5) j + 1)) (nt f (wi f (w0 f 5) j + 2))).2.2
      omega
    · intro p m
      rw [gm]
      by_cases q : ∃ i, 0 ≤ i ∧ i < n ∧ S 145 i = p ∧ S 146 i = m
      · obtain ⟨i, i0, i1, i2, i3⟩ := q
        have x := hk i i0 i1
        rw [i2, i3] at x
        have y := ttp_b w p m
        have z := gi p m
        have u : gsat (gO f) p m = sat (gO f p m) := rfl
        rw [u] at x
        unfold sat at x
        by_cases v : gO f p m ≤ 4611686018427387904
        · rw [if_pos v] at x; omega
        · rw [if_neg v] at x; omega
      · have H : ∀ i, 0 ≤ i → i < n → ¬ (S 145 i = p ∧ S 146 i = m) := fun i a c x => q ⟨i, a, c, x⟩
        have x1 := b.ri.no1 p m H
        have x2 := b.rm.no1 p m H
        have x3 := b.ro.no1 p m H
        have u : gsat (gO f) p m = sat (gO f p m) := rfl
        rw [u] at x3
        unfold sat at x3
        rw [x1, x2]
        split at x3 <;> omega
  · rintro ⟨ck, eq⟩ i _ hi
    unfold mbB
    apply decide_eq_true
    obtain ⟨p, hp⟩ : ∃ p, S 145 i = p := ⟨_, rfl⟩
    obtain ⟨m, hm⟩ : ∃ m, S 146 i = m := ⟨_, rfl⟩
    rw [hp, hm]
    have y := ttp_b w p m
    have z := gi p m
    constructor
    · by_cases q : ∃ j : Nat, (j : Int) < nc f (w0 f 5) ∧ nt f (wi f (w0 f 5) j + 1) = p ∧ nt f (wi f (w0 f 5) j + 2) = m
      · obtain ⟨j, j1, j2, j3⟩ := q
        have e := at1 j j1
        have c := of_decide_eq_true ((zall_iff _ _ _).mp ck j (by omega) (by omega))
        have cf := (t.mc j j1).po
        rw [j2, j3] at e c
        rw [j2] at cf
        have u : ttp L p m = L.tot p m := by unfold ttp; rw [if_neg (by omega)]; omega
        omega
      · rw [gacc_no _ (fun j hj x => q ⟨j, by omega, x⟩)]
        omega
    · have a := gM_b t w th ck p m
      have c := eq p m
      rw [gm] at a c
      have u : gsat (gO f) p m = sat (gO f p m) := rfl
      rw [u]
      unfold sat
      rw [if_pos (by omega)]
      exact c
theorem m_isBal {S : Sto} {f : F} {sc : Int} {L : Led} (h : MT S f sc L) (h64 : L.ht ≤ 64) (mi : MI S f) (th : there L f = true) : ∃ S' v, zR 296 7 [(34, 34)] S S' (0, v) ∧ sufr S S' ∧ (v = 0 ∨ v = 1) ∧ (v = 1 ↔ bal L f) := by
  obtain ⟨t1, t2, t3, t4, t5⟩ := there_1 th
  have t := h.t
  have w := h.w
  have sz := t.sz
  have l0 := t.l0
  have l2 := t.l2
  have l5 := t.l5
  have fe := t.fe
  have a3 := t.fd 3 (by omega)
  obtain ⟨S1, n1, r1, B1, kp1, fr1, nb1⟩ := m_sumIn h mi th
  unfold zR at r1
  have h1 := h.su fr1
  have m1 := mi.su fr1
  obtain ⟨S2, n2, y2, y3, r2, B2, fr2, nb2⟩ := m_mintC t (nc f (w0 f 5)).toNat 0 S1 n1 (9, 0) (9, 0) h1 m1 B1 (by omega) (by omega)
  rw [show ((0 : Nat) : Int) = 0 by rfl] at r2
  have h2 := h1.su fr2
  have m2 := m1.su fr2
  obtain ⟨S3, n3, k, r3, B3, nb3, nb3', k0, k1, kP, kN, fr3, kk⟩ := m_sumOf B2 0 0 (by omega) (by unfold zLong; omega) (by omega)
  unfold zR at r3
  have h3 := h2.su fr3
  have m3 := m2.su fr3
  have k3 : S3 142 3 = w0 f 3 := h3.s.fl 3 (by omega)
  have tg := h3.d.tg (w0 f 3) (by omega) a3.2
  have B4 := B3.setO (v := (nt f (w0 f 3))) k0 k1
  rw [kP, kN] at B4
  have e4 : gup g0 0 0 ((nt f (w0 f 3))) = gsat (gad g0 0 0 ((nt f (w0 f 3)))) := by
    funext p m
    unfold gup gsat gad g0 sat
    have := fe.2
    split <;> (rw [if_pos (by omega)]; omega)
  rw [e4] at B4
  have n3b := B3.n1
  have fr4 : sufr S3 (up S3 148 k ((nt f (w0 f 3)))) := sufr_row (by omega)
  have gp : ∀ p m, 0 ≤ gOu f (gad g0 0 0 ((nt f (w0 f 3)))) 0 p m := by
    intro p m
    unfold gOu gad g0
    have := fe.2
    split <;> omega
  obtain ⟨S5, n5, z3, z4, z5, z6, r5, B5, fr5, nb5⟩ := m_outS (g := gad g0 0 0 ((nt f (w0 f 3)))) t k (nc f (w0 f 2)).toNat 0 (up S3 148 k ((nt f (w0 f 3)))) n3 y3 (9, 0) (9, 0) (9, 0) (h3.su fr4) (m3.su fr4) B4 gp (by omega) (by omega)
  rw [show ((0 : Nat) : Int) = 0 by rfl] at r5
  have eo : gOu f (gad g0 0 0 ((nt f (w0 f 3)))) (nc f (w0 f 2)).toNat = gO f := by
    funext p m
    rw [gOu_add]
    unfold gO gad g0
    omega
  rw [eo] at B5
  have fr : sufr S S5 := (((fr1.tr fr2).tr fr3).tr fr4).tr fr5
  have h5 := h.su fr
  have gi0 : ∀ p m, 0 ≤ gIn L f (nc f (w0 f 0)).toNat p m ∧ gIn L f (nc f (w0 f 0)).toNat p m ≤ L.tot p m := by
    intro p m
    rw [gIn_s w p m (nc f (w0 f 0)).toNat (fun j hj => t1 j (by omega))]
    exact sIn_b w p m (nc f (w0 f 0)).toNat (fun j hj => t1 j (by omega)) (fun j k x y => t2 j k x (by omega))
  have gm0 : ∀ p m, -4611686018427387904 ≤ gacc g0 (kF f (w0 f 5)) (nc f (w0 f 5)).toNat p m ∧ gacc g0 (kF f (w0 f 5)) (nc f (w0 f 5)).toNat p m ≤ 4611686018427387904 := by
    intro p m
    by_cases q : ∃ j : Nat, (j : Int) < nc f (w0 f 5) ∧ (kF f (w0 f 5) j).1 = p ∧ (kF f (w0 f 5) j).2.1 = m
    · obtain ⟨j, j1, j2, j3⟩ := q
      have g := gacc_at (k := kF f (w0 f 5)) (nc f (w0 f 5)).toNat j (fun i j a b => kF_ne (fun i hi => t.mc i hi) i j a (by omega)) (by omega)
      rw [j2, j3] at g
      rw [g]
      exact (t.mc j j1).am.2
    · rw [gacc_no _ (fun i hi x => q ⟨i, by omega, x⟩)]
      omega
  have n5b := B5.ks.n0
  have fin := fun Q => m_fin (bs := k) h5 h64 B5 gi0 gm0 Q n5.toNat 0 true z4 z5 z6 (by omega)
  rw [show ((0 : Nat) : Int) = 0 by rfl, Bool.true_and, zb1_t] at fin
  refine ⟨S5, zb1 (zall (mbB L S5 (gIn L f (nc f (w0 f 0)).toNat) (gsat (gO f)) (gacc g0 (kF f (w0 f 5)) (nc f (w0 f 5)).toNat)) n5.toNat 0), fun Q => ?_, fr, ?_, ?_⟩
  case refine_1 =>
    rw [← fin Q]
    have s1 : zCall Cd 296 7 [(34, 34)] S Q = zG Cd 296 (Cd 296 6) [(34, 34), (0, 0), (9, 0), (9, 0), (9, 0), (9, 0), (9, 0)] [] S1 Q := by simp (disch := omega) only [bcd, true_and, and_true, and_self, if_true, if_false, ite_true, ite_false, reduceIte, Int.reduceEq, Int.reduceNe, Int.reduceLT, Int.reduceLE, Int.reduceAdd, Int.reduceSub, Int.reduceMul, Int.reduceNeg, Int.reduceMod, Int.reduceDiv, Int.reduceToNat, Nat.reduceAdd, Nat.reduceLeDiff, List.length_cons, List.length_nil, not_false_eq_true, not_true_eq_false, ne_eq, or_false, false_or, or_self, false_and, and_false, or_true, true_or, ite_self, Int.add_sub_cancel, Int.sub_add_cancel, b_lc1, b_lc2, b_lc3, b_lc4, b_lc5, up_eq, up_ei, up_n1, up_n2, W32i, W8i, W16i, W64i, if_ps, if_ng, and_tr, fil_n1, fil_in, fil_out, le_tt, le_ff, lt_tt, lt_ff, eq_tt, eq_ff, M296, r1]
    have s2 : zG Cd 296 (Cd 296 75) [(34, 34), (0, nc f (w0 f 5)), y2, y3, (9, 0), (9, 0), (9, 0)] [] S2 Q = zG Cd 296 (Cd 296 101) [(34, 34), (0, k), (0, 0), y3, (9, 0), (9, 0), (9, 0)] [] (up S3 148 k ((nt f (w0 f 3)))) Q := by
      obtain ⟨Y2, Y2'⟩ := y2
      simp (disch := omega) only [bcd, true_and, and_true, and_self, if_true, if_false, ite_true, ite_false, reduceIte, Int.reduceEq, Int.reduceNe, Int.reduceLT, Int.reduceLE, Int.reduceAdd, Int.reduceSub, Int.reduceMul, Int.reduceNeg, Int.reduceMod, Int.reduceDiv, Int.reduceToNat, Nat.reduceAdd, Nat.reduceLeDiff, List.length_cons, List.length_nil, not_false_eq_true, not_true_eq_false, ne_eq, or_false, false_or, or_self, false_and, and_false, or_true, true_or, ite_self, Int.add_sub_cancel, Int.sub_add_cancel, b_lc1, b_lc2, b_lc3, b_lc4, b_lc5, up_eq, up_ei, up_n1, up_n2, W32i, W8i, W16i, W64i, if_ps, if_ng, and_tr, fil_n1, fil_in, fil_out, le_tt, le_ff, lt_tt, lt_ff, eq_tt, eq_ff, M296, r3, k3, tg]
    rw [s1, r2, s2, r5]
    simp (disch := omega) only [bcd, true_and, and_true, and_self, if_true, if_false, ite_true, ite_false, reduceIte, Int.reduceEq, Int.reduceNe, Int.reduceLT, Int.reduceLE, Int.reduceAdd, Int.reduceSub, Int.reduceMul, Int.reduceNeg, Int.reduceMod, Int.reduceDiv, Int.reduceToNat, Nat.reduceAdd, Nat.reduceLeDiff, List.length_cons, List.length_nil, not_false_eq_true, not_true_eq_false, ne_eq, or_false, false_or, or_self, false_and, and_false, or_true, true_or, ite_self, Int.add_sub_cancel, Int.sub_add_cancel, b_lc1, b_lc2, b_lc3, b_lc4, b_lc5, up_eq, up_ei, up_n1, up_n2, W32i, W8i, W16i, W64i, if_ps, if_ng, and_tr, fil_n1, fil_in, fil_out, le_tt, le_ff, lt_tt, lt_ff, eq_tt, eq_ff, M296]
  case refine_2 => cases zall (mbB L S5 (gIn L f (nc f (w0 f 0)).toNat) (gsat (gO f)) (gacc g0 (kF f (w0 f 5)) (nc f (w0 f 5)).toNat)) n5.toNat 0 <;> simp [zb1]
  case refine_3 =>
    rw [← bal_m t w th B5]
    cases zall (mbB L S5 (gIn L f (nc f (w0 f 0)).toNat) (gsat (gO f)) (gacc g0 (kF f (w0 f 5)) (nc f (w0 f 5)).toNat)) n5.toNat 0 <;> simp [zb1]
