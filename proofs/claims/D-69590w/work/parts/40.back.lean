-- uses: 39
theorem arr_e (S : Sto) (a : Int) (g : Int → Int) (j : Int) : arr S a g a j = g j := by simp [arr]
theorem arr_o (S : Sto) (a : Int) (g : Int → Int) (b j : Int) (h : b ≠ a) : arr S a g b j = S b j := by simp [arr, h]
def Led.cut (L : Led) (t : Int) : Led := (Led.mk1 (L.ob t) L.e (t) L.ht L.ud L.bg L.ad L.md (zunS L.sp L.se (L.sb L.T) (L.sb L.T - L.sb t).toNat) L.kd L.ds L.po L.na L.am L.da L.th L.ob L.sb L.se L.pt L.tk L.mr)
theorem zunS_a (sp se : Int → Int) (hi : Int) (c : Nat) : ∀ d, zunS (zunS sp se hi c) se (hi - c) d = zunS sp se hi (c + d) := by
  intro d
  induction d with
  | zero => rfl
  | succ d ih =>
    rw [zunS, ih, ← Nat.add_assoc, zunS.eq_def sp se hi (c + d + 1)]
    simp only
    congr 2
    omega
theorem LW.obm {L : Led} (w : LW L) (t : Int) (h0 : 0 ≤ t) : ∀ (c : Nat), t + c ≤ L.T → L.ob t ≤ L.ob (t + c) ∧ L.sb t ≤ L.sb (t + c) := by
  intro c
  induction c with
  | zero => intro; simp
  | succ c ih =>
    intro h
    have a := ih (by omega)
    have b := w.tw (t + c) (by omega) (by omega)
    have b1 := b.ob
    have b2 := b.sb
    rw [show t + ((c + 1 : Nat) : Int) = t + c + 1 by omega]
    omega
theorem LW.mono {L : Led} (w : LW L) {t u : Int} (h0 : 0 ≤ t) (h1 : t ≤ u) (h2 : u ≤ L.T) : L.ob t ≤ L.ob u ∧ L.sb t ≤ L.sb u := by
  have := w.obm t h0 (u - t).toNat (by omega)
  rw [show t + ((u - t).toNat : Int) = u by omega] at this
  exact this
theorem LW.txs {L : Led} (w : LW L) (s : Int) (h0 : 0 ≤ s) : ∀ (c : Nat), (c : Int) ≤ L.T → s < L.sb c → ∃ u : Int, 0 ≤ u ∧ u < c ∧ L.sb u ≤ s ∧ s < L.sb (u + 1) := by
  intro c
  induction c with
  | zero => intro h1 h2; have := w.sb0; simp at h2; omega
  | succ c ih =>
    intro h1 h2
    by_cases q : s < L.sb c
    · obtain ⟨u, a, b, d, e⟩ := ih (by omega) q
      exact ⟨u, a, by omega, d, e⟩
    · exact ⟨c, by omega, by omega, by omega, by simpa using h2⟩
theorem LW.sbT {L : Led} (w : LW L) : ∀ (c : Nat), (c : Int) ≤ L.T → L.sb c ≤ 8 * c := by
  intro c
  induction c with
  | zero => intro; have := w.sb0; simp; omega
  | succ c ih =>
    intro h
    have a := ih (by omega)
    have b := (w.tw c (by omega) (by omega)).sb
    simp only [Int.natCast_add, Int.cast_ofNat_Int]
    omega
/-- those that a transaction made live, when those behind it are taken back -/
theorem LW.liv {L : Led} (w : LW L) {t n : Int} (h0 : 0 ≤ t) (h1 : t < L.T) (h2 : L.ob t ≤ n) (h3 : n < L.ob (t + 1)) : (L.cut (t + 1)).sp n < 0 := by
  have hm := w.mono (t := t + 1) (u := L.T) (by omega) (by omega) (by omega)
  have ht := w.T
  have h4 : 0 ≤ n := by
    have := w.mono (t := 0) (u := t) (by omega) (by omega) (by omega)
    have := w.ob0
    have := w.e
    omega
  have h5 : n < L.n := by have := w.obT; omega
  simp only [Led_mk, Led.cut]
  by_cases q : L.sp n < 0
  · by_cases r : ∃ s, L.sb L.T - ((L.sb L.T - L.sb (t + 1)).toNat : Int) ≤ s ∧ s < L.sb L.T ∧ L.se s = n
    · rw [zunS_yes _ _ _ _ _ r]; omega
    · rw [zunS_no _ _ _ _ _ (fun s a b e => r ⟨s, a, b, e⟩)]; exact q
  · obtain ⟨s, a, b, e⟩ := w.spe n h4 h5 (by omega)
    obtain ⟨u, c1, c2, c3, c4⟩ := w.txs s a L.T.toNat (by omega) (by rw [show (L.T.toNat : Int) = L.T by omega]; exact b)
    have d := ((w.tw u c1 (by omega)).se s c3 c4).2.1
    have d2 : t < u := by
      by_cases z : t < u
      · exact z
      · have := w.mono (t := u) (u := t) c1 (by omega) (by omega)
        omega
    have d3 := w.mono (t := t + 1) (u := u) (by omega) (by omega) (by omega)
    rw [zunS_yes _ _ _ _ _ ⟨s, by omega, b, e⟩]
    omega
theorem x_back {S : Sto} {L : Led} (w : LW L) (t : Int) (h0 : 0 ≤ t) (h1 : t < L.T) (hT : L.T ≤ 64) (h : XL S (L.cut (t + 1))) (hp : zLong (zsum L.pt t.toNat)) (hk : 0 ≤ zsum L.tk t.toNat ∧ zsum L.tk t.toNat ≤ 64) :
    ∃ S', zR 35 3 [(11, 11)] S S' (9, 0) ∧ XL S' (L.cut t) ∧ ∀ f, f ≠ 15 → S' 11 f = S 11 f := by
  have tw := w.tw t h0 h1
  have e1 : S 13 6 = t + 1 := h.lsz
  have e2 : S 64 t = L.ob (t + 1) - L.ob t := h.ob t h0 (by simp only [Led_mk, Led.cut]; omega)
  have e3 : S 63 t = L.sb (t + 1) - L.sb t := h.sb t h0 (by simp only [Led_mk, Led.cut]; omega)
  have e4 : S 13 1 = L.sb (t + 1) := h.ssz
  have e5 : S 12 9 = L.ob (t + 1) := h.size
  have e6 : S 12 10 = zcl (L.cut (t + 1)).sp (L.ob (t + 1)).toNat := h.lives
  have e7 : S 65 t = L.pt t := h.pt t h0 (by simp only [Led_mk, Led.cut]; omega)
  have e8 : S 66 t = L.tk t := h.tk t h0 (by simp only [Led_mk, Led.cut]; omega)
  have e9 : S 11 15 = zsum L.pt (t + 1).toNat := h.pot
  have e10 : S 13 7 = zsum L.tk (t + 1).toNat := h.tks
  have q1 := tw.ob
  have q2 := tw.sb
  have q3 := w.mono (t := 0) (u := t) (by omega) h0 (by omega)
  have q4 := w.mono (t := t + 1) (u := L.T) (by omega) (by omega) (by omega)
  have q5 := w.obT
  have q6 := w.n
  have q7 := w.sbT L.T.toNat (by have := w.T; omega)
  rw [show (L.T.toNat : Int) = L.T by have := w.T; omega] at q7
  have q8 := w.ob0
  have q9 := w.sb0
  have q10 := w.e
  have c1 : ((L.ob (t + 1) - L.ob t).toNat : Int) = L.ob (t + 1) - L.ob t := by omega
  have c2 : ((L.sb (t + 1) - L.sb t).toNat : Int) = L.sb (t + 1) - L.sb t := by omega
  have lv : zcl (L.cut (t + 1)).sp (L.ob (t + 1)).toNat = zcl (L.cut (t + 1)).sp (L.ob t).toNat + (L.ob (t + 1) - L.ob t) := by
    have := zcl_cut (L.cut (t + 1)).sp (L.ob t).toNat (L.ob (t + 1) - L.ob t).toNat (fun i a b => w.liv h0 h1 (by omega) (by omega))
    rw [show (L.ob t).toNat + (L.ob (t + 1) - L.ob t).toNat = (L.ob (t + 1)).toNat by omega] at this
    omega
  have lz := zcl_le (L.cut (t + 1)).sp (L.ob t).toNat
  have se1 : ∀ s, L.sb t ≤ s → s < L.sb (t + 1) → S 62 s = L.se s := fun s a b => h.se s (by omega) (by simp only [Led_mk, Led.cut]; exact b)
  have se2 : ∀ s, L.sb t ≤ s → s < L.sb (t + 1) → 0 ≤ L.se s ∧ L.se s < L.ob t ∧ 0 ≤ (L.cut (t + 1)).sp (L.se s) := by
    intro s a b
    have x := tw.se s a b
    have y := tw.th
    refine ⟨x.1, x.2.1, ?_⟩
    simp only [Led_mk, Led.cut]
    rw [zunS_no]
    · omega
    · intro u a' b' e
      exact w.inj s u (by omega) (by omega) b' e.symm
  refine ⟨?s, fun Q => ?h1, ?h2, ?h3⟩
  case h1 =>
    simp (disch := omega) only [bcd, true_and, and_true, and_self, if_true, if_false, ite_true, ite_false, reduceIte, Int.reduceEq, Int.reduceNe, Int.reduceLT, Int.reduceLE, Int.reduceAdd, Int.reduceSub, Int.reduceMul, Int.reduceNeg, Int.reduceMod, Int.reduceDiv, Int.reduceToNat, Nat.reduceAdd, Nat.reduceLeDiff, List.length_cons, List.length_nil, not_false_eq_true, not_true_eq_false, ne_eq, or_false, false_or, or_self, false_and, and_false, or_true, true_or, ite_self, Int.add_sub_cancel, Int.sub_add_cancel, b_lc1, b_lc2, b_lc3, b_lc4, b_lc5, up_eq, up_ei, up_n1, up_n2, W32i, W8i, W16i, W64i, if_ps, if_ng, and_tr, fil_n1, fil_in, fil_out, M35, e1]
    rw [x_fgt_l t (L.ob (t + 1) - L.ob t) (L.ob (t + 1) - L.ob t).toNat 0 _ _ h0 (by omega) (by simp (disch := omega) only [true_and, and_true, and_self, if_true, if_false, ite_true, ite_false, reduceIte, Int.reduceEq, Int.reduceNe, Int.reduceLT, Int.reduceLE, Int.reduceAdd, Int.reduceSub, Int.reduceMul, Int.reduceNeg, Int.reduceMod, Int.reduceDiv, Int.reduceToNat, Nat.reduceAdd, Nat.reduceLeDiff, List.length_cons, List.length_nil, not_false_eq_true, not_true_eq_false, ne_eq, or_false, false_or, or_self, false_and, and_false, or_true, true_or, ite_self, Int.add_sub_cancel, Int.sub_add_cancel, b_lc1, b_lc2, b_lc3, b_lc4, b_lc5, up_eq, up_ei, up_n1, up_n2, W32i, W8i, W16i, W64i, if_ps, if_ng, and_tr, fil_n1, fil_in, fil_out]; exact e2) (by omega) (by omega) (by omega) (by simp (disch := omega) only [true_and, and_true, and_self, if_true, if_false, ite_true, ite_false, reduceIte, Int.reduceEq, Int.reduceNe, Int.reduceLT, Int.reduceLE, Int.reduceAdd, Int.reduceSub, Int.reduceMul, Int.reduceNeg, Int.reduceMod, Int.reduceDiv, Int.reduceToNat, Nat.reduceAdd, Nat.reduceLeDiff, List.length_cons, List.length_nil, not_false_eq_true, not_true_eq_false, ne_eq, or_false, false_or, or_self, false_and, and_false, or_true, true_or, ite_self, Int.add_sub_cancel, Int.sub_add_cancel, b_lc1, b_lc2, b_lc3, b_lc4, b_lc5, up_eq, up_ei, up_n1, up_n2, W32i, W8i, W16i, W64i, if_ps, if_ng, and_tr, fil_n1, fil_in, fil_out]; omega) (by simp (disch := omega) only [true_and, and_true, and_self, if_true, if_false, ite_true, ite_false, reduceIte, Int.reduceEq, Int.reduceNe, Int.reduceLT, Int.reduceLE, Int.reduceAdd, Int.reduceSub, Int.reduceMul, Int.reduceNeg, Int.reduceMod, Int.reduceDiv, Int.reduceToNat, Nat.reduceAdd, Nat.reduceLeDiff, List.length_cons, List.length_nil, not_false_eq_true, not_true_eq_false, ne_eq, or_false, false_or, or_self, false_and, and_false, or_true, true_or, ite_self, Int.add_sub_cancel, Int.sub_add_cancel, b_lc1, b_lc2, b_lc3, b_lc4, b_lc5, up_eq, up_ei, up_n1, up_n2, W32i, W8i, W16i, W64i, if_ps, if_ng, and_tr, fil_n1, fil_in, fil_out]; omega) (by simp (disch := omega) only [true_and, and_true, and_self, if_true, if_false, ite_true, ite_false, reduceIte, Int.reduceEq, Int.reduceNe, Int.reduceLT, Int.reduceLE, Int.reduceAdd, Int.reduceSub, Int.reduceMul, Int.reduceNeg, Int.reduceMod, Int.reduceDiv, Int.reduceToNat, Nat.reduceAdd, Nat.reduceLeDiff, List.length_cons, List.length_nil, not_false_eq_true, not_true_eq_false, ne_eq, or_false, false_or, or_self, false_and, and_false, or_true, true_or, ite_self, Int.add_sub_cancel, Int.sub_add_cancel, b_lc1, b_lc2, b_lc3, b_lc4, b_lc5, up_eq, up_ei, up_n1, up_n2, W32i, W8i, W16i, W64i, if_ps, if_ng, and_tr, fil_n1, fil_in, fil_out]; omega) (by simp (disch := omega) only [true_and, and_true, and_self, if_true, if_false, ite_true, ite_false, reduceIte, Int.reduceEq, Int.reduceNe, Int.reduceLT, Int.reduceLE, Int.reduceAdd, Int.reduceSub, Int.reduceMul, Int.reduceNeg, Int.reduceMod, Int.reduceDiv, Int.reduceToNat, Nat.reduceAdd, Nat.reduceLeDiff, List.length_cons, List.length_nil, not_false_eq_true, not_true_eq_false, ne_eq, or_false, false_or, or_self, false_and, and_false, or_true, true_or, ite_self, Int.add_sub_cancel, Int.sub_add_cancel, b_lc1, b_lc2, b_lc3, b_lc4, b_lc5, up_eq, up_ei, up_n1, up_n2, W32i, W8i, W16i, W64i, if_ps, if_ng, and_tr, fil_n1, fil_in, fil_out]; omega)]
    rw [x_liv_l t (L.sb (t + 1) - L.sb t) (L.sb (t + 1) - L.sb t).toNat 0 _ _ h0 (by omega) (by simp (disch := omega) only [true_and, and_true, and_self, if_true, if_false, ite_true, ite_false, reduceIte, Int.reduceEq, Int.reduceNe, Int.reduceLT, Int.reduceLE, Int.reduceAdd, Int.reduceSub, Int.reduceMul, Int.reduceNeg, Int.reduceMod, Int.reduceDiv, Int.reduceToNat, Nat.reduceAdd, Nat.reduceLeDiff, List.length_cons, List.length_nil, not_false_eq_true, not_true_eq_false, ne_eq, or_false, false_or, or_self, false_and, and_false, or_true, true_or, ite_self, Int.add_sub_cancel, Int.sub_add_cancel, b_lc1, b_lc2, b_lc3, b_lc4, b_lc5, up_eq, up_ei, up_n1, up_n2, W32i, W8i, W16i, W64i, if_ps, if_ng, and_tr, fil_n1, fil_in, fil_out]; exact e3) (by omega) (by omega) (by omega) (by simp (disch := omega) only [true_and, and_true, and_self, if_true, if_false, ite_true, ite_false, reduceIte, Int.reduceEq, Int.reduceNe, Int.reduceLT, Int.reduceLE, Int.reduceAdd, Int.reduceSub, Int.reduceMul, Int.reduceNeg, Int.reduceMod, Int.reduceDiv, Int.reduceToNat, Nat.reduceAdd, Nat.reduceLeDiff, List.length_cons, List.length_nil, not_false_eq_true, not_true_eq_false, ne_eq, or_false, false_or, or_self, false_and, and_false, or_true, true_or, ite_self, Int.add_sub_cancel, Int.sub_add_cancel, b_lc1, b_lc2, b_lc3, b_lc4, b_lc5, up_eq, up_ei, up_n1, up_n2, W32i, W8i, W16i, W64i, if_ps, if_ng, and_tr, fil_n1, fil_in, fil_out]; omega) (by simp (disch := omega) only [true_and, and_true, and_self, if_true, if_false, ite_true, ite_false, reduceIte, Int.reduceEq, Int.reduceNe, Int.reduceLT, Int.reduceLE, Int.reduceAdd, Int.reduceSub, Int.reduceMul, Int.reduceNeg, Int.reduceMod, Int.reduceDiv, Int.reduceToNat, Nat.reduceAdd, Nat.reduceLeDiff, List.length_cons, List.length_nil, not_false_eq_true, not_true_eq_false, ne_eq, or_false, false_or, or_self, false_and, and_false, or_true, true_or, ite_self, Int.add_sub_cancel, Int.sub_add_cancel, b_lc1, b_lc2, b_lc3, b_lc4, b_lc5, up_eq, up_ei, up_n1, up_n2, W32i, W8i, W16i, W64i, if_ps, if_ng, and_tr, fil_n1, fil_in, fil_out]; omega) (by simp (disch := omega) only [true_and, and_true, and_self, if_true, if_false, ite_true, ite_false, reduceIte, Int.reduceEq, Int.reduceNe, Int.reduceLT, Int.reduceLE, Int.reduceAdd, Int.reduceSub, Int.reduceMul, Int.reduceNeg, Int.reduceMod, Int.reduceDiv, Int.reduceToNat, Nat.reduceAdd, Nat.reduceLeDiff, List.length_cons, List.length_nil, not_false_eq_true, not_true_eq_false, ne_eq, or_false, false_or, or_self, false_and, and_false, or_true, true_or, ite_self, Int.add_sub_cancel, Int.sub_add_cancel, b_lc1, b_lc2, b_lc3, b_lc4, b_lc5, up_eq, up_ei, up_n1, up_n2, W32i, W8i, W16i, W64i, if_ps, if_ng, and_tr, fil_n1, fil_in, fil_out]; omega) (by simp (disch := omega) only [true_and, and_true, and_self, if_true, if_false, ite_true, ite_false, reduceIte, Int.reduceEq, Int.reduceNe, Int.reduceLT, Int.reduceLE, Int.reduceAdd, Int.reduceSub, Int.reduceMul, Int.reduceNeg, Int.reduceMod, Int.reduceDiv, Int.reduceToNat, Nat.reduceAdd, Nat.reduceLeDiff, List.length_cons, List.length_nil, not_false_eq_true, not_true_eq_false, ne_eq, or_false, false_or, or_self, false_and, and_false, or_true, true_or, ite_self, Int.add_sub_cancel, Int.sub_add_cancel, b_lc1, b_lc2, b_lc3, b_lc4, b_lc5, up_eq, up_ei, up_n1, up_n2, W32i, W8i, W16i, W64i, if_ps, if_ng, and_tr, fil_n1, fil_in, fil_out]; omega) (by simp (disch := omega) only [true_and, and_true, and_self, if_true, if_false, ite_true, ite_false, reduceIte, Int.reduceEq, Int.reduceNe, Int.reduceLT, Int.reduceLE, Int.reduceAdd, Int.reduceSub, Int.reduceMul, Int.reduceNeg, Int.reduceMod, Int.reduceDiv, Int.reduceToNat, Nat.reduceAdd, Nat.reduceLeDiff, List.length_cons, List.length_nil, not_false_eq_true, not_true_eq_false, ne_eq, or_false, false_or, or_self, false_and, and_false, or_true, true_or, ite_self, Int.add_sub_cancel, Int.sub_add_cancel, b_lc1, b_lc2, b_lc3, b_lc4, b_lc5, up_eq, up_ei, up_n1, up_n2, W32i, W8i, W16i, W64i, if_ps, if_ng, and_tr, fil_n1, fil_in, fil_out]; intro s a b; rw [se1 s (by omega) (by omega)]; have := se2 s (by omega) (by omega); omega)]
    rw [c1, c2]
    have tk := tw.tk
    have pq := tw.pt
    have z1 : zsum L.pt (t + 1).toNat = zsum L.pt t.toNat + L.pt t := by rw [show (t + 1).toNat = t.toNat + 1 by omega, zsum, show (t.toNat : Int) = t by omega]
    have z2 : zsum L.tk (t + 1).toNat = zsum L.tk t.toNat + L.tk t := by rw [show (t + 1).toNat = t.toNat + 1 by omega, zsum, show (t.toNat : Int) = t by omega]
    unfold zLong at hp
    simp (disch := omega) only [bcd, true_and, and_true, and_self, if_true, if_false, ite_true, ite_false, reduceIte, Int.reduceEq, Int.reduceNe, Int.reduceLT, Int.reduceLE, Int.reduceAdd, Int.reduceSub, Int.reduceMul, Int.reduceNeg, Int.reduceMod, Int.reduceDiv, Int.reduceToNat, Nat.reduceAdd, Nat.reduceLeDiff, List.length_cons, List.length_nil, not_false_eq_true, not_true_eq_false, ne_eq, or_false, false_or, or_self, false_and, and_false, or_true, true_or, ite_self, Int.add_sub_cancel, Int.sub_add_cancel, b_lc1, b_lc2, b_lc3, b_lc4, b_lc5, up_eq, up_ei, up_n1, up_n2, W32i, W8i, W16i, W64i, if_ps, if_ng, and_tr, fil_n1, fil_in, fil_out, M35, arr_e, arr_o, up_fn, e7, e8, e9, e10, z1, z2]
    rcases tk with tk | tk
    · rw [if_pos tk, tk, Int.sub_zero, Int.add_zero]
    · rw [if_neg (by omega), tk, Int.add_sub_cancel]
  case h3 => intro f hf; simp (disch := omega) only [true_and, and_true, and_self, if_true, if_false, ite_true, ite_false, reduceIte, Int.reduceEq, Int.reduceNe, Int.reduceLT, Int.reduceLE, Int.reduceAdd, Int.reduceSub, Int.reduceMul, Int.reduceNeg, Int.reduceMod, Int.reduceDiv, Int.reduceToNat, Nat.reduceAdd, Nat.reduceLeDiff, List.length_cons, List.length_nil, not_false_eq_true, not_true_eq_false, ne_eq, or_false, false_or, or_self, false_and, and_false, or_true, true_or, ite_self, Int.add_sub_cancel, Int.sub_add_cancel, b_lc1, b_lc2, b_lc3, b_lc4, b_lc5, up_eq, up_ei, up_n1, up_n2, W32i, W8i, W16i, W64i, if_ps, if_ng, and_tr, fil_n1, fil_in, fil_out, arr_o]
  case h2 =>
    have zz := zunS_a L.sp L.se (L.sb L.T) (L.sb L.T - L.sb (t + 1)).toNat (L.sb (t + 1) - L.sb t).toNat
    rw [show L.sb L.T - ((L.sb L.T - L.sb (t + 1)).toNat : Int) = L.sb (t + 1) by omega, show (L.sb L.T - L.sb (t + 1)).toNat + (L.sb (t + 1) - L.sb t).toNat = (L.sb L.T - L.sb t).toNat by omega] at zz
    have z3 : (L.cut t).sp = zunS (L.cut (t + 1)).sp L.se (L.sb (t + 1)) (L.sb (t + 1) - L.sb t).toNat := zz.symm
    apply XL.mk1
    case size => simp (disch := omega) only [true_and, and_true, and_self, if_true, if_false, ite_true, ite_false, reduceIte, Int.reduceEq, Int.reduceNe, Int.reduceLT, Int.reduceLE, Int.reduceAdd, Int.reduceSub, Int.reduceMul, Int.reduceNeg, Int.reduceMod, Int.reduceDiv, Int.reduceToNat, Nat.reduceAdd, Nat.reduceLeDiff, List.length_cons, List.length_nil, not_false_eq_true, not_true_eq_false, ne_eq, or_false, false_or, or_self, false_and, and_false, or_true, true_or, ite_self, Int.add_sub_cancel, Int.sub_add_cancel, b_lc1, b_lc2, b_lc3, b_lc4, b_lc5, up_eq, up_ei, up_n1, up_n2, W32i, W8i, W16i, W64i, if_ps, if_ng, and_tr, fil_n1, fil_in, fil_out, arr_o]; simp only [Led_mk, Led.cut]; omega
    case lives =>
      simp (disch := omega) only [true_and, and_true, and_self, if_true, if_false, ite_true, ite_false, reduceIte, Int.reduceEq, Int.reduceNe, Int.reduceLT, Int.reduceLE, Int.reduceAdd, Int.reduceSub, Int.reduceMul, Int.reduceNeg, Int.reduceMod, Int.reduceDiv, Int.reduceToNat, Nat.reduceAdd, Nat.reduceLeDiff, List.length_cons, List.length_nil, not_false_eq_true, not_true_eq_false, ne_eq, or_false, false_or, or_self, false_and, and_false, or_true, true_or, ite_self, Int.add_sub_cancel, Int.sub_add_cancel, b_lc1, b_lc2, b_lc3, b_lc4, b_lc5, up_eq, up_ei, up_n1, up_n2, W32i, W8i, W16i, W64i, if_ps, if_ng, and_tr, fil_n1, fil_in, fil_out]
      rw [z3]
      show _ = zcl _ (L.ob t).toNat
      rw [zcl_un _ _ _ _ _ (fun s a b => by have := se2 s (by omega) b; omega) (fun s u a b c => w.inj s u (by omega) b (by omega))]
      omega
    case sp =>
      intro n a b
      simp (disch := omega) only [true_and, and_true, and_self, if_true, if_false, ite_true, ite_false, reduceIte, Int.reduceEq, Int.reduceNe, Int.reduceLT, Int.reduceLE, Int.reduceAdd, Int.reduceSub, Int.reduceMul, Int.reduceNeg, Int.reduceMod, Int.reduceDiv, Int.reduceToNat, Nat.reduceAdd, Nat.reduceLeDiff, List.length_cons, List.length_nil, not_false_eq_true, not_true_eq_false, ne_eq, or_false, false_or, or_self, false_and, and_false, or_true, true_or, ite_self, Int.add_sub_cancel, Int.sub_add_cancel, b_lc1, b_lc2, b_lc3, b_lc4, b_lc5, up_eq, up_ei, up_n1, up_n2, W32i, W8i, W16i, W64i, if_ps, if_ng, and_tr, fil_n1, fil_in, fil_out, arr_e]
      have b : n < L.ob t := b
      rw [z3, e4]
      apply zunS_cg
      · exact h.sp n a (by simp only [Led_mk, Led.cut]; omega)
      · intro s a b; exact se1 s (by omega) b
    case ssz => simp (disch := omega) only [true_and, and_true, and_self, if_true, if_false, ite_true, ite_false, reduceIte, Int.reduceEq, Int.reduceNe, Int.reduceLT, Int.reduceLE, Int.reduceAdd, Int.reduceSub, Int.reduceMul, Int.reduceNeg, Int.reduceMod, Int.reduceDiv, Int.reduceToNat, Nat.reduceAdd, Nat.reduceLeDiff, List.length_cons, List.length_nil, not_false_eq_true, not_true_eq_false, ne_eq, or_false, false_or, or_self, false_and, and_false, or_true, true_or, ite_self, Int.add_sub_cancel, Int.sub_add_cancel, b_lc1, b_lc2, b_lc3, b_lc4, b_lc5, up_eq, up_ei, up_n1, up_n2, W32i, W8i, W16i, W64i, if_ps, if_ng, and_tr, fil_n1, fil_in, fil_out]; simp only [Led_mk, Led.cut]; omega
    case tks => simp (disch := omega) only [true_and, and_true, and_self, if_true, if_false, ite_true, ite_false, reduceIte, Int.reduceEq, Int.reduceNe, Int.reduceLT, Int.reduceLE, Int.reduceAdd, Int.reduceSub, Int.reduceMul, Int.reduceNeg, Int.reduceMod, Int.reduceDiv, Int.reduceToNat, Nat.reduceAdd, Nat.reduceLeDiff, List.length_cons, List.length_nil, not_false_eq_true, not_true_eq_false, ne_eq, or_false, false_or, or_self, false_and, and_false, or_true, true_or, ite_self, Int.add_sub_cancel, Int.sub_add_cancel, b_lc1, b_lc2, b_lc3, b_lc4, b_lc5, up_eq, up_ei, up_n1, up_n2, W32i, W8i, W16i, W64i, if_ps, if_ng, and_tr, fil_n1, fil_in, fil_out]; rfl
    case lsz => simp (disch := omega) only [true_and, and_true, and_self, if_true, if_false, ite_true, ite_false, reduceIte, Int.reduceEq, Int.reduceNe, Int.reduceLT, Int.reduceLE, Int.reduceAdd, Int.reduceSub, Int.reduceMul, Int.reduceNeg, Int.reduceMod, Int.reduceDiv, Int.reduceToNat, Nat.reduceAdd, Nat.reduceLeDiff, List.length_cons, List.length_nil, not_false_eq_true, not_true_eq_false, ne_eq, or_false, false_or, or_self, false_and, and_false, or_true, true_or, ite_self, Int.add_sub_cancel, Int.sub_add_cancel, b_lc1, b_lc2, b_lc3, b_lc4, b_lc5, up_eq, up_ei, up_n1, up_n2, W32i, W8i, W16i, W64i, if_ps, if_ng, and_tr, fil_n1, fil_in, fil_out, arr_o]; rfl
    case pot => simp (disch := omega) only [true_and, and_true, and_self, if_true, if_false, ite_true, ite_false, reduceIte, Int.reduceEq, Int.reduceNe, Int.reduceLT, Int.reduceLE, Int.reduceAdd, Int.reduceSub, Int.reduceMul, Int.reduceNeg, Int.reduceMod, Int.reduceDiv, Int.reduceToNat, Nat.reduceAdd, Nat.reduceLeDiff, List.length_cons, List.length_nil, not_false_eq_true, not_true_eq_false, ne_eq, or_false, false_or, or_self, false_and, and_false, or_true, true_or, ite_self, Int.add_sub_cancel, Int.sub_add_cancel, b_lc1, b_lc2, b_lc3, b_lc4, b_lc5, up_eq, up_ei, up_n1, up_n2, W32i, W8i, W16i, W64i, if_ps, if_ng, and_tr, fil_n1, fil_in, fil_out]; rfl
    case se => simp (disch := omega) only [true_and, and_true, and_self, if_true, if_false, ite_true, ite_false, reduceIte, Int.reduceEq, Int.reduceNe, Int.reduceLT, Int.reduceLE, Int.reduceAdd, Int.reduceSub, Int.reduceMul, Int.reduceNeg, Int.reduceMod, Int.reduceDiv, Int.reduceToNat, Nat.reduceAdd, Nat.reduceLeDiff, List.length_cons, List.length_nil, not_false_eq_true, not_true_eq_false, ne_eq, or_false, false_or, or_self, false_and, and_false, or_true, true_or, ite_self, Int.add_sub_cancel, Int.sub_add_cancel, b_lc1, b_lc2, b_lc3, b_lc4, b_lc5, up_eq, up_ei, up_n1, up_n2, W32i, W8i, W16i, W64i, if_ps, if_ng, and_tr, fil_n1, fil_in, fil_out, arr_o]; intro s a b; have b : s < L.sb t := b; exact h.se s a (by simp only [Led_mk, Led.cut]; omega)
    case sb => simp (disch := omega) only [true_and, and_true, and_self, if_true, if_false, ite_true, ite_false, reduceIte, Int.reduceEq, Int.reduceNe, Int.reduceLT, Int.reduceLE, Int.reduceAdd, Int.reduceSub, Int.reduceMul, Int.reduceNeg, Int.reduceMod, Int.reduceDiv, Int.reduceToNat, Nat.reduceAdd, Nat.reduceLeDiff, List.length_cons, List.length_nil, not_false_eq_true, not_true_eq_false, ne_eq, or_false, false_or, or_self, false_and, and_false, or_true, true_or, ite_self, Int.add_sub_cancel, Int.sub_add_cancel, b_lc1, b_lc2, b_lc3, b_lc4, b_lc5, up_eq, up_ei, up_n1, up_n2, W32i, W8i, W16i, W64i, if_ps, if_ng, and_tr, fil_n1, fil_in, fil_out, arr_o]; intro n a b; have b : n < t := b; exact h.sb n a (by simp only [Led_mk, Led.cut]; omega)
    case ob => simp (disch := omega) only [true_and, and_true, and_self, if_true, if_false, ite_true, ite_false, reduceIte, Int.reduceEq, Int.reduceNe, Int.reduceLT, Int.reduceLE, Int.reduceAdd, Int.reduceSub, Int.reduceMul, Int.reduceNeg, Int.reduceMod, Int.reduceDiv, Int.reduceToNat, Nat.reduceAdd, Nat.reduceLeDiff, List.length_cons, List.length_nil, not_false_eq_true, not_true_eq_false, ne_eq, or_false, false_or, or_self, false_and, and_false, or_true, true_or, ite_self, Int.add_sub_cancel, Int.sub_add_cancel, b_lc1, b_lc2, b_lc3, b_lc4, b_lc5, up_eq, up_ei, up_n1, up_n2, W32i, W8i, W16i, W64i, if_ps, if_ng, and_tr, fil_n1, fil_in, fil_out, arr_o]; intro n a b; have b : n < t := b; exact h.ob n a (by simp only [Led_mk, Led.cut]; omega)
    case pt => simp (disch := omega) only [true_and, and_true, and_self, if_true, if_false, ite_true, ite_false, reduceIte, Int.reduceEq, Int.reduceNe, Int.reduceLT, Int.reduceLE, Int.reduceAdd, Int.reduceSub, Int.reduceMul, Int.reduceNeg, Int.reduceMod, Int.reduceDiv, Int.reduceToNat, Nat.reduceAdd, Nat.reduceLeDiff, List.length_cons, List.length_nil, not_false_eq_true, not_true_eq_false, ne_eq, or_false, false_or, or_self, false_and, and_false, or_true, true_or, ite_self, Int.add_sub_cancel, Int.sub_add_cancel, b_lc1, b_lc2, b_lc3, b_lc4, b_lc5, up_eq, up_ei, up_n1, up_n2, W32i, W8i, W16i, W64i, if_ps, if_ng, and_tr, fil_n1, fil_in, fil_out, arr_o]; intro n a b; have b : n < t := b; exact h.pt n a (by simp only [Led_mk, Led.cut]; omega)
    case tk => simp (disch := omega) only [true_and, and_true, and_self, if_true, if_false, ite_true, ite_false, reduceIte, Int.reduceEq, Int.reduceNe, Int.reduceLT, Int.reduceLE, Int.reduceAdd, Int.reduceSub, Int.reduceMul, Int.reduceNeg, Int.reduceMod, Int.reduceDiv, Int.reduceToNat, Nat.reduceAdd, Nat.reduceLeDiff, List.length_cons, List.length_nil, not_false_eq_true, not_true_eq_false, ne_eq, or_false, false_or, or_self, false_and, and_false, or_true, true_or, ite_self, Int.add_sub_cancel, Int.sub_add_cancel, b_lc1, b_lc2, b_lc3, b_lc4, b_lc5, up_eq, up_ei, up_n1, up_n2, W32i, W8i, W16i, W64i, if_ps, if_ng, and_tr, fil_n1, fil_in, fil_out, arr_o]; intro n a b; have b : n < t := b; exact h.tk n a (by simp only [Led_mk, Led.cut]; omega)
    case ad => simp (disch := omega) only [true_and, and_true, and_self, if_true, if_false, ite_true, ite_false, reduceIte, Int.reduceEq, Int.reduceNe, Int.reduceLT, Int.reduceLE, Int.reduceAdd, Int.reduceSub, Int.reduceMul, Int.reduceNeg, Int.reduceMod, Int.reduceDiv, Int.reduceToNat, Nat.reduceAdd, Nat.reduceLeDiff, List.length_cons, List.length_nil, not_false_eq_true, not_true_eq_false, ne_eq, or_false, false_or, or_self, false_and, and_false, or_true, true_or, ite_self, Int.add_sub_cancel, Int.sub_add_cancel, b_lc1, b_lc2, b_lc3, b_lc4, b_lc5, up_eq, up_ei, up_n1, up_n2, W32i, W8i, W16i, W64i, if_ps, if_ng, and_tr, fil_n1, fil_in, fil_out, arr_o]; intro n a b; have b : n < L.ob t := b; exact h.ad n a (by simp only [Led_mk, Led.cut]; omega)
    case md => simp (disch := omega) only [true_and, and_true, and_self, if_true, if_false, ite_true, ite_false, reduceIte, Int.reduceEq, Int.reduceNe, Int.reduceLT, Int.reduceLE, Int.reduceAdd, Int.reduceSub, Int.reduceMul, Int.reduceNeg, Int.reduceMod, Int.reduceDiv, Int.reduceToNat, Nat.reduceAdd, Nat.reduceLeDiff, List.length_cons, List.length_nil, not_false_eq_true, not_true_eq_false, ne_eq, or_false, false_or, or_self, false_and, and_false, or_true, true_or, ite_self, Int.add_sub_cancel, Int.sub_add_cancel, b_lc1, b_lc2, b_lc3, b_lc4, b_lc5, up_eq, up_ei, up_n1, up_n2, W32i, W8i, W16i, W64i, if_ps, if_ng, and_tr, fil_n1, fil_in, fil_out, arr_o]; intro n a b; have b : n < L.ob t := b; exact h.md n a (by simp only [Led_mk, Led.cut]; omega)
    case kd => simp (disch := omega) only [true_and, and_true, and_self, if_true, if_false, ite_true, ite_false, reduceIte, Int.reduceEq, Int.reduceNe, Int.reduceLT, Int.reduceLE, Int.reduceAdd, Int.reduceSub, Int.reduceMul, Int.reduceNeg, Int.reduceMod, Int.reduceDiv, Int.reduceToNat, Nat.reduceAdd, Nat.reduceLeDiff, List.length_cons, List.length_nil, not_false_eq_true, not_true_eq_false, ne_eq, or_false, false_or, or_self, false_and, and_false, or_true, true_or, ite_self, Int.add_sub_cancel, Int.sub_add_cancel, b_lc1, b_lc2, b_lc3, b_lc4, b_lc5, up_eq, up_ei, up_n1, up_n2, W32i, W8i, W16i, W64i, if_ps, if_ng, and_tr, fil_n1, fil_in, fil_out, arr_o]; intro n a b; have b : n < L.ob t := b; exact h.kd n a (by simp only [Led_mk, Led.cut]; omega)
    case ds => simp (disch := omega) only [true_and, and_true, and_self, if_true, if_false, ite_true, ite_false, reduceIte, Int.reduceEq, Int.reduceNe, Int.reduceLT, Int.reduceLE, Int.reduceAdd, Int.reduceSub, Int.reduceMul, Int.reduceNeg, Int.reduceMod, Int.reduceDiv, Int.reduceToNat, Nat.reduceAdd, Nat.reduceLeDiff, List.length_cons, List.length_nil, not_false_eq_true, not_true_eq_false, ne_eq, or_false, false_or, or_self, false_and, and_false, or_true, true_or, ite_self, Int.add_sub_cancel, Int.sub_add_cancel, b_lc1, b_lc2, b_lc3, b_lc4, b_lc5, up_eq, up_ei, up_n1, up_n2, W32i, W8i, W16i, W64i, if_ps, if_ng, and_tr, fil_n1, fil_in, fil_out, arr_o]; intro n a b; have b : n < L.ob t := b; exact h.ds n a (by simp only [Led_mk, Led.cut]; omega)
    case po => simp (disch := omega) only [true_and, and_true, and_self, if_true, if_false, ite_true, ite_false, reduceIte, Int.reduceEq, Int.reduceNe, Int.reduceLT, Int.reduceLE, Int.reduceAdd, Int.reduceSub, Int.reduceMul, Int.reduceNeg, Int.reduceMod, Int.reduceDiv, Int.reduceToNat, Nat.reduceAdd, Nat.reduceLeDiff, List.length_cons, List.length_nil, not_false_eq_true, not_true_eq_false, ne_eq, or_false, false_or, or_self, false_and, and_false, or_true, true_or, ite_self, Int.add_sub_cancel, Int.sub_add_cancel, b_lc1, b_lc2, b_lc3, b_lc4, b_lc5, up_eq, up_ei, up_n1, up_n2, W32i, W8i, W16i, W64i, if_ps, if_ng, and_tr, fil_n1, fil_in, fil_out, arr_o]; intro n k a b; have b : n < L.ob t := b; exact h.po n k a (by simp only [Led_mk, Led.cut]; omega)
    case na => simp (disch := omega) only [true_and, and_true, and_self, if_true, if_false, ite_true, ite_false, reduceIte, Int.reduceEq, Int.reduceNe, Int.reduceLT, Int.reduceLE, Int.reduceAdd, Int.reduceSub, Int.reduceMul, Int.reduceNeg, Int.reduceMod, Int.reduceDiv, Int.reduceToNat, Nat.reduceAdd, Nat.reduceLeDiff, List.length_cons, List.length_nil, not_false_eq_true, not_true_eq_false, ne_eq, or_false, false_or, or_self, false_and, and_false, or_true, true_or, ite_self, Int.add_sub_cancel, Int.sub_add_cancel, b_lc1, b_lc2, b_lc3, b_lc4, b_lc5, up_eq, up_ei, up_n1, up_n2, W32i, W8i, W16i, W64i, if_ps, if_ng, and_tr, fil_n1, fil_in, fil_out, arr_o]; intro n k a b; have b : n < L.ob t := b; exact h.na n k a (by simp only [Led_mk, Led.cut]; omega)
    case am => simp (disch := omega) only [true_and, and_true, and_self, if_true, if_false, ite_true, ite_false, reduceIte, Int.reduceEq, Int.reduceNe, Int.reduceLT, Int.reduceLE, Int.reduceAdd, Int.reduceSub, Int.reduceMul, Int.reduceNeg, Int.reduceMod, Int.reduceDiv, Int.reduceToNat, Nat.reduceAdd, Nat.reduceLeDiff, List.length_cons, List.length_nil, not_false_eq_true, not_true_eq_false, ne_eq, or_false, false_or, or_self, false_and, and_false, or_true, true_or, ite_self, Int.add_sub_cancel, Int.sub_add_cancel, b_lc1, b_lc2, b_lc3, b_lc4, b_lc5, up_eq, up_ei, up_n1, up_n2, W32i, W8i, W16i, W64i, if_ps, if_ng, and_tr, fil_n1, fil_in, fil_out, arr_o]; intro n k a b; have b : n < L.ob t := b; exact h.am n k a (by simp only [Led_mk, Led.cut]; omega)
    case da => simp (disch := omega) only [true_and, and_true, and_self, if_true, if_false, ite_true, ite_false, reduceIte, Int.reduceEq, Int.reduceNe, Int.reduceLT, Int.reduceLE, Int.reduceAdd, Int.reduceSub, Int.reduceMul, Int.reduceNeg, Int.reduceMod, Int.reduceDiv, Int.reduceToNat, Nat.reduceAdd, Nat.reduceLeDiff, List.length_cons, List.length_nil, not_false_eq_true, not_true_eq_false, ne_eq, or_false, false_or, or_self, false_and, and_false, or_true, true_or, ite_self, Int.add_sub_cancel, Int.sub_add_cancel, b_lc1, b_lc2, b_lc3, b_lc4, b_lc5, up_eq, up_ei, up_n1, up_n2, W32i, W8i, W16i, W64i, if_ps, if_ng, and_tr, fil_n1, fil_in, fil_out, arr_o]; intro n k a b; have b : n < L.ob t := b; exact h.da n k a (by simp only [Led_mk, Led.cut]; omega)
    case ht => simp (disch := omega) only [true_and, and_true, and_self, if_true, if_false, ite_true, ite_false, reduceIte, Int.reduceEq, Int.reduceNe, Int.reduceLT, Int.reduceLE, Int.reduceAdd, Int.reduceSub, Int.reduceMul, Int.reduceNeg, Int.reduceMod, Int.reduceDiv, Int.reduceToNat, Nat.reduceAdd, Nat.reduceLeDiff, List.length_cons, List.length_nil, not_false_eq_true, not_true_eq_false, ne_eq, or_false, false_or, or_self, false_and, and_false, or_true, true_or, ite_self, Int.add_sub_cancel, Int.sub_add_cancel, b_lc1, b_lc2, b_lc3, b_lc4, b_lc5, up_eq, up_ei, up_n1, up_n2, W32i, W8i, W16i, W64i, if_ps, if_ng, and_tr, fil_n1, fil_in, fil_out, arr_o, arr_e]; exact h.ht
    case ud => simp (disch := omega) only [true_and, and_true, and_self, if_true, if_false, ite_true, ite_false, reduceIte, Int.reduceEq, Int.reduceNe, Int.reduceLT, Int.reduceLE, Int.reduceAdd, Int.reduceSub, Int.reduceMul, Int.reduceNeg, Int.reduceMod, Int.reduceDiv, Int.reduceToNat, Nat.reduceAdd, Nat.reduceLeDiff, List.length_cons, List.length_nil, not_false_eq_true, not_true_eq_false, ne_eq, or_false, false_or, or_self, false_and, and_false, or_true, true_or, ite_self, Int.add_sub_cancel, Int.sub_add_cancel, b_lc1, b_lc2, b_lc3, b_lc4, b_lc5, up_eq, up_ei, up_n1, up_n2, W32i, W8i, W16i, W64i, if_ps, if_ng, and_tr, fil_n1, fil_in, fil_out, arr_o, arr_e]; exact h.ud
    case bg => simp (disch := omega) only [true_and, and_true, and_self, if_true, if_false, ite_true, ite_false, reduceIte, Int.reduceEq, Int.reduceNe, Int.reduceLT, Int.reduceLE, Int.reduceAdd, Int.reduceSub, Int.reduceMul, Int.reduceNeg, Int.reduceMod, Int.reduceDiv, Int.reduceToNat, Nat.reduceAdd, Nat.reduceLeDiff, List.length_cons, List.length_nil, not_false_eq_true, not_true_eq_false, ne_eq, or_false, false_or, or_self, false_and, and_false, or_true, true_or, ite_self, Int.add_sub_cancel, Int.sub_add_cancel, b_lc1, b_lc2, b_lc3, b_lc4, b_lc5, up_eq, up_ei, up_n1, up_n2, W32i, W8i, W16i, W64i, if_ps, if_ng, and_tr, fil_n1, fil_in, fil_out, arr_o, arr_e]; exact h.bg
    case mr => simp (disch := omega) only [true_and, and_true, and_self, if_true, if_false, ite_true, ite_false, reduceIte, Int.reduceEq, Int.reduceNe, Int.reduceLT, Int.reduceLE, Int.reduceAdd, Int.reduceSub, Int.reduceMul, Int.reduceNeg, Int.reduceMod, Int.reduceDiv, Int.reduceToNat, Nat.reduceAdd, Nat.reduceLeDiff, List.length_cons, List.length_nil, not_false_eq_true, not_true_eq_false, ne_eq, or_false, false_or, or_self, false_and, and_false, or_true, true_or, ite_self, Int.add_sub_cancel, Int.sub_add_cancel, b_lc1, b_lc2, b_lc3, b_lc4, b_lc5, up_eq, up_ei, up_n1, up_n2, W32i, W8i, W16i, W64i, if_ps, if_ng, and_tr, fil_n1, fil_in, fil_out, arr_o, arr_e]; exact h.mr
theorem zsum_nn {f : Int → Int} (b : Int) (hb : 0 ≤ b) : ∀ (m : Nat), (∀ n : Int, 0 ≤ n → n < m → 0 ≤ f n ∧ f n ≤ b) → 0 ≤ zsum f m ∧ zsum f m ≤ b * m := by
  intro m
  induction m with
  | zero => intro; simp [zsum]
  | succ m ih =>
    intro h
    have a := ih (fun n p q => h n p (by omega))
    have c := h m (by omega) (by omega)
    rw [zsum, show b * ((m + 1 : Nat) : Int) = b * m + b by rw [Int.natCast_add, Int.mul_add]; simp]
    omega
theorem LW.tks {L : Led} (w : LW L) (hT : L.T ≤ 64) (t : Int) (h0 : 0 ≤ t) (h1 : t ≤ L.T) : 0 ≤ zsum L.tk t.toNat ∧ zsum L.tk t.toNat ≤ 64 := by
  have := zsum_nn (f := L.tk) 1 (by omega) t.toNat (fun n a b => by have := (w.tw n a (by omega)).tk; omega)
  omega
/-- what is in the pot is no more than can be -/
theorem LW.potb {L : Led} (w : LW L) (t : Int) (h0 : 0 ≤ t) (h1 : t ≤ L.T) : 0 ≤ zsum L.pt t.toNat ∧ zsum L.pt t.toNat ≤ 4611686018427387904 := by
  have a : 0 ≤ zsum L.pt t.toNat := by
    have : ∀ m : Nat, (m : Int) ≤ L.T → 0 ≤ zsum L.pt m := by
      intro m
      induction m with
      | zero => intro; simp [zsum]
      | succ m ih => intro h; rw [zsum]; have := ih (by omega); have := (w.tw m (by omega) (by omega)).pt; omega
    exact this t.toNat (by omega)
  have b := w.sup t 0 0 h0 h1
  unfold Led.sup at b
  rw [if_pos ⟨rfl, rfl⟩] at b
  have c : 0 ≤ zsum (fun n => zilv L.se (L.sb t) n (L.amt 0 0 n)) (L.ob t).toNat := by
    have mo := w.mono (t := t) (u := L.T) h0 h1 (by omega)
    have q5 := w.obT
    have : ∀ m : Nat, (m : Int) ≤ L.ob t → 0 ≤ zsum (fun n => zilv L.se (L.sb t) n (L.amt 0 0 n)) m := by
      intro m
      induction m with
      | zero => intro; simp [zsum]
      | succ m ih =>
        intro h
        rw [zsum]
        have h1 := ih (by omega)
        have ow := w.ow m (by omega) (by omega)
        have h2 : 0 ≤ L.amt 0 0 m := by
          unfold Led.amt
          have : ∀ (c : Nat) (k : Int), 8 * (m : Int) ≤ k → k + c ≤ 8 * m + L.kd m → 0 ≤ zlk L.po L.na L.am 0 0 c k := by
            intro c
            induction c with
            | zero => intros; simp [zlk]
            | succ c ih =>
              intro k a b
              rw [zlk]
              split
              · have := ow.po (k - 8 * m) (by omega) (by omega)
                rw [show 8 * (m : Int) + (k - 8 * m) = k by omega] at this
                omega
              · exact ih (k + 1) (by omega) (by omega)
          exact this _ _ (by omega) (by have := ow.kd; omega)
        have h3 : 0 ≤ zilv L.se (L.sb t) m (L.amt 0 0 m) := by unfold zilv; split <;> omega
        omega
    by_cases q : 0 ≤ L.ob t
    · exact this _ (by omega)
    · rw [show (L.ob t).toNat = 0 by omega]; simp [zsum]
  omega
theorem x_back_l {L : Led} (w : LW L) (hT : L.T ≤ 64) (n to : Int) (h0 : 0 ≤ to) : ∀ (c : Nat) (S : Sto), to + c ≤ L.T → XL S (L.cut (to + c)) → ∃ S', (∀ Q : ZQ, zG Cd 34 (Cd 34 49) [(11, 11), (0, n), (0, to)] [] S Q = zG Cd 34 (Cd 34 67) [(11, 11), (0, n), (0, to)] [] S' Q) ∧ XL S' (L.cut to) ∧ ∀ f, f ≠ 15 → S' 11 f = S 11 f := by
  intro c
  induction c with
  | zero =>
    intro S h1 h
    have e : S 13 6 = to + (0 : Nat) := h.lsz
    refine ⟨S, fun Q => ?_, by simpa using h, fun _ _ => rfl⟩
    rw [L34_49]
    simp (disch := omega) only [bcd, true_and, and_true, and_self, if_true, if_false, ite_true, ite_false, reduceIte, Int.reduceEq, Int.reduceNe, Int.reduceLT, Int.reduceLE, Int.reduceAdd, Int.reduceSub, Int.reduceMul, Int.reduceNeg, Int.reduceMod, Int.reduceDiv, Int.reduceToNat, Nat.reduceAdd, Nat.reduceLeDiff, List.length_cons, List.length_nil, not_false_eq_true, not_true_eq_false, ne_eq, or_false, false_or, or_self, false_and, and_false, or_true, true_or]
    rw [if_ps (by omega)]
  | succ c ih =>
    intro S h1 h
    have e : S 13 6 = to + (c + 1 : Nat) := h.lsz
    rw [show to + ((c + 1 : Nat) : Int) = to + c + 1 by omega] at h
    have pb := w.potb (to + c) (by omega) (by omega)
    obtain ⟨S1, r1, x1, f1⟩ := x_back w (to + c) (by omega) (by omega) hT h (by unfold zLong; omega) (w.tks hT _ (by omega) (by omega))
    obtain ⟨S2, r2, x2, f2⟩ := ih S1 (by omega) x1
    refine ⟨S2, fun Q => ?_, x2, fun f hf => by rw [f2 f hf, f1 f hf]⟩
    unfold zR at r1
    rw [L34_49]
    simp (disch := omega) only [bcd, true_and, and_true, and_self, if_true, if_false, ite_true, ite_false, reduceIte, Int.reduceEq, Int.reduceNe, Int.reduceLT, Int.reduceLE, Int.reduceAdd, Int.reduceSub, Int.reduceMul, Int.reduceNeg, Int.reduceMod, Int.reduceDiv, Int.reduceToNat, Nat.reduceAdd, Nat.reduceLeDiff, List.length_cons, List.length_nil, not_false_eq_true, not_true_eq_false, ne_eq, or_false, false_or, or_self, false_and, and_false, or_true, true_or, ite_self, Int.add_sub_cancel, Int.sub_add_cancel, b_lc1, b_lc2, b_lc3, b_lc4, b_lc5, up_eq, up_ei, up_n1, up_n2, W32i, W8i, W16i, W64i, if_ps, if_ng, and_tr, fil_n1, fil_in, fil_out, r1, r2]
