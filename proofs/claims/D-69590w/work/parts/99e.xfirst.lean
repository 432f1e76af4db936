-- uses: 99d
/-- how many kinds the inputs hold -/
def RN (L : Led) (f : F) (n : Int) : Prop := ∃ P N A : Int → Int, KS n P N ∧ RP n P N A (gIn L f (nc f (w0 f 0)).toNat) ∧ ∀ i, 0 ≤ i → i < n → A i ≠ 0
theorem RN_uni {L : Led} {f : F} {n n' : Int} (h : RN L f n) (h' : RN L f n') : n = n' := by
  obtain ⟨P, N, A, a, b, c⟩ := h
  obtain ⟨P', N', A', a', b', c'⟩ := h'
  exact (KS_uni a a' b b' c c').1
noncomputable def kN (L : Led) (f : F) : Int := @dite _ (∃ n, RN L f n) (Classical.propDecidable _) (fun h => Classical.choose h) (fun _ => 0)
theorem RN.k {L : Led} {f : F} {n : Int} (h : RN L f n) : kN L f = n := by
  unfold kN
  have e : ∃ n, RN L f n := ⟨n, h⟩
  rw [dif_pos e]
  exact RN_uni (Classical.choose_spec e) h
theorem BG.rn {S : Sto} {r n : Int} {L : Led} {f : F} (h : BG S r n (gIn L f (nc f (w0 f 0)).toNat)) : RN L f n := ⟨_, _, _, h.ks, h.rp, h.nz⟩
/-- the verdict of the first phase -/
noncomputable def fph (L : Led) (f : F) (by1 : Int) : Int :=
  if there L f = false then 8 else
  if L.ht < nt f (w0 f 4 + 1) ∨ nt f (w0 f 4 + 2) < L.ht then 9 else
  if (nt f (w0 f 3)) < 10 + by1 / 8 then 10 else
  @ite _ (¬ bal L f) (Classical.propDecidable _) 11 (
  if sgd L f = false then 12 else
  if nds L f = true ∧ cvd L f = false then 13 else
  if lgd f = false then 14 else
  if 1024 < L.n + nc f (w0 f 2) then 15 else
  if nds L f = true ∧ 200 < ctxN f (kN L f) then 16 else 0)
theorem zidiv8f : ∀ b : Fin 4097, zidiv (b.val : Int) 8 = (b.val : Int) / 8 := by decide +kernel
theorem zidiv8 {x : Int} (h : 0 ≤ x) (g : x ≤ 4096) : zidiv x 8 = x / 8 := by
  have := zidiv8f ⟨x.toNat, by omega⟩
  simpa [Int.toNat_of_nonneg h] using this
theorem x_lg {f : F} {sc a b n1 r : Int} {L : Led} {g : Int → Int → Int} (hn1 : n1 = nc f (w0 f 2)) (hb : b = 0 ∨ b = 1) : ∀ (c i : Nat) (S : Sto) (n : Int), XS S f sc L → S 109 0 = r → BG S r n g → (i : Int) + c = nc f (w0 f 2) → ∃ S', (∀ Q : ZQ, zG Cd 9 (Cd 9 151) [(11, 11), (0, a), (0, b), (0, n1), (0, (i : Int))] [] S Q = Q S' (0, if zall (lgk f) c i = false then 14 else if 1024 < L.n + nc f (w0 f 2) then 15 else if b = 1 ∧ 200 < ctxN f n then 16 else 0)) ∧ xsc S S' := by
  intro c
  induction c with
  | zero =>
    intro i S n h hr B hi
    have l2 := h.t.l2
    have nn := h.w.n
    have sz := h.l.size
    have cn := fun Q => x_ctxN h hr B Q
    refine ⟨S, fun Q => ?_, xsc.rf S⟩
    rw [zall, if_neg (by decide), L9_151]
    by_cases q : 1024 < L.n + nc f (w0 f 2)
    · rw [if_pos q]
      simp (disch := omega) only [bcd, true_and, and_true, and_self, if_true, if_false, ite_true, ite_false, reduceIte, Int.reduceEq, Int.reduceNe, Int.reduceLT, Int.reduceLE, Int.reduceAdd, Int.reduceSub, Int.reduceMul, Int.reduceNeg, Int.reduceMod, Int.reduceDiv, Int.reduceToNat, Nat.reduceAdd, Nat.reduceLeDiff, List.length_cons, List.length_nil, not_false_eq_true, not_true_eq_false, ne_eq, or_false, false_or, or_self, false_and, and_false, or_true, true_or, ite_self, Int.add_sub_cancel, Int.sub_add_cancel, b_lc1, b_lc2, b_lc3, b_lc4, b_lc5, up_eq, up_ei, up_n1, up_n2, W32i, W8i, W16i, W64i, if_ps, if_ng, and_tr, fil_n1, fil_in, fil_out, le_tt, le_ff, lt_tt, lt_ff, eq_tt, eq_ff, M9, sz]
    · rw [if_neg q]
      rcases hb with rfl | rfl
      · rw [if_neg (by omega)]
        simp (disch := omega) only [bcd, true_and, and_true, and_self, if_true, if_false, ite_true, ite_false, reduceIte, Int.reduceEq, Int.reduceNe, Int.reduceLT, Int.reduceLE, Int.reduceAdd, Int.reduceSub, Int.reduceMul, Int.reduceNeg, Int.reduceMod, Int.reduceDiv, Int.reduceToNat, Nat.reduceAdd, Nat.reduceLeDiff, List.length_cons, List.length_nil, not_false_eq_true, not_true_eq_false, ne_eq, or_false, false_or, or_self, false_and, and_false, or_true, true_or, ite_self, Int.add_sub_cancel, Int.sub_add_cancel, b_lc1, b_lc2, b_lc3, b_lc4, b_lc5, up_eq, up_ei, up_n1, up_n2, W32i, W8i, W16i, W64i, if_ps, if_ng, and_tr, fil_n1, fil_in, fil_out, le_tt, le_ff, lt_tt, lt_ff, eq_tt, eq_ff, M9, sz]
      · by_cases z : 200 < ctxN f n
        · rw [if_pos ⟨rfl, z⟩]
          simp (disch := omega) only [bcd, true_and, and_true, and_self, if_true, if_false, ite_true, ite_false, reduceIte, Int.reduceEq, Int.reduceNe, Int.reduceLT, Int.reduceLE, Int.reduceAdd, Int.reduceSub, Int.reduceMul, Int.reduceNeg, Int.reduceMod, Int.reduceDiv, Int.reduceToNat, Nat.reduceAdd, Nat.reduceLeDiff, List.length_cons, List.length_nil, not_false_eq_true, not_true_eq_false, ne_eq, or_false, false_or, or_self, false_and, and_false, or_true, true_or, ite_self, Int.add_sub_cancel, Int.sub_add_cancel, b_lc1, b_lc2, b_lc3, b_lc4, b_lc5, up_eq, up_ei, up_n1, up_n2, W32i, W8i, W16i, W64i, if_ps, if_ng, and_tr, fil_n1, fil_in, fil_out, le_tt, le_ff, lt_tt, lt_ff, eq_tt, eq_ff, M9, sz, cn]
        · rw [if_neg (fun x => z x.2)]
          simp (disch := omega) only [bcd, true_and, and_true, and_self, if_true, if_false, ite_true, ite_false, reduceIte, Int.reduceEq, Int.reduceNe, Int.reduceLT, Int.reduceLE, Int.reduceAdd, Int.reduceSub, Int.reduceMul, Int.reduceNeg, Int.reduceMod, Int.reduceDiv, Int.reduceToNat, Nat.reduceAdd, Nat.reduceLeDiff, List.length_cons, List.length_nil, not_false_eq_true, not_true_eq_false, ne_eq, or_false, false_or, or_self, false_and, and_false, or_true, true_or, ite_self, Int.add_sub_cancel, Int.sub_add_cancel, b_lc1, b_lc2, b_lc3, b_lc4, b_lc5, up_eq, up_ei, up_n1, up_n2, W32i, W8i, W16i, W64i, if_ps, if_ng, and_tr, fil_n1, fil_in, fil_out, le_tt, le_ff, lt_tt, lt_ff, eq_tt, eq_ff, M9, sz, cn]
  | succ c ih =>
    intro i S n h hr B hi
    have l2 := h.t.l2
    obtain ⟨S1, R, xc⟩ := x_baseOf h i (by omega)
    unfold zR at R
    have B1 := B.sc xc
    have h1 := h.xf xc.xb
    have hr1 : S1 109 0 = r := by rw [xc.2 _ (by decide)]; exact hr
    rw [zall]
    by_cases q : lgk f i = true
    · obtain ⟨q1, q2⟩ := of_decide_eq_true q
      have e : bsO f i = nt f (wi f (wi f ((wi f (w0 f 2) i)) 1) 0 + 3) := by unfold bsO; rw [if_pos q1]
      obtain ⟨S', r2, xc2⟩ := ih (i + 1) S1 n h1 hr1 B1 (by omega)
      refine ⟨S', fun Q => ?_, xc.tr xc2⟩
      have r2 := r2 Q
      rw [show ((i + 1 : Nat) : Int) = (i : Int) + 1 by omega] at r2
      rw [q, Bool.true_and, ← r2]
      conv => lhs; rw [L9_151]
      simp (disch := omega) only [bcd, true_and, and_true, and_self, if_true, if_false, ite_true, ite_false, reduceIte, Int.reduceEq, Int.reduceNe, Int.reduceLT, Int.reduceLE, Int.reduceAdd, Int.reduceSub, Int.reduceMul, Int.reduceNeg, Int.reduceMod, Int.reduceDiv, Int.reduceToNat, Nat.reduceAdd, Nat.reduceLeDiff, List.length_cons, List.length_nil, not_false_eq_true, not_true_eq_false, ne_eq, or_false, false_or, or_self, false_and, and_false, or_true, true_or, ite_self, Int.add_sub_cancel, Int.sub_add_cancel, b_lc1, b_lc2, b_lc3, b_lc4, b_lc5, up_eq, up_ei, up_n1, up_n2, W32i, W8i, W16i, W64i, if_ps, if_ng, and_tr, fil_n1, fil_in, fil_out, le_tt, le_ff, lt_tt, lt_ff, eq_tt, eq_ff, M9, R, e]
    · have q' : lgk f i = false := by cases z : lgk f i <;> simp_all
      refine ⟨S1, fun Q => ?_, xc⟩
      rw [q', Bool.false_and, if_pos rfl, L9_151]
      have e : bsO f i < 2 := by
        unfold bsO
        by_cases z : nt f (wi f (wi f ((wi f (w0 f 2) i)) 1) 0 + 1) = 0
        · rw [if_pos z]
          by_cases y : 2 ≤ nt f (wi f (wi f ((wi f (w0 f 2) i)) 1) 0 + 3)
          · exact absurd (decide_eq_true ⟨z, y⟩) q
          · omega
        · rw [if_neg z]; omega
      simp (disch := omega) only [bcd, true_and, and_true, and_self, if_true, if_false, ite_true, ite_false, reduceIte, Int.reduceEq, Int.reduceNe, Int.reduceLT, Int.reduceLE, Int.reduceAdd, Int.reduceSub, Int.reduceMul, Int.reduceNeg, Int.reduceMod, Int.reduceDiv, Int.reduceToNat, Nat.reduceAdd, Nat.reduceLeDiff, List.length_cons, List.length_nil, not_false_eq_true, not_true_eq_false, ne_eq, or_false, false_or, or_self, false_and, and_false, or_true, true_or, ite_self, Int.add_sub_cancel, Int.sub_add_cancel, b_lc1, b_lc2, b_lc3, b_lc4, b_lc5, up_eq, up_ei, up_n1, up_n2, W32i, W8i, W16i, W64i, if_ps, if_ng, and_tr, fil_n1, fil_in, fil_out, le_tt, le_ff, lt_tt, lt_ff, eq_tt, eq_ff, M9, R]
theorem x_first {S : Sto} {f : F} {sc by1 : Int} {L : Led} (h : XS S f sc L) (bi : BI S) (hb : S 11 26 = by1) (b0 : 0 ≤ by1 ∧ by1 ≤ 4096) : ∃ S', zR 9 5 [(11, 11)] S S' (0, fph L f by1) ∧ xbf S S' ∧ BI S' ∧ (fph L f by1 = 0 → ∃ n, BG S' (S' 109 0) n (gIn L f (nc f (w0 f 0)).toNat)) := by
  have t := h.t
  have w := h.w
  have sz := t.sz
  have xt := fun Q => x_areThere h Q
  obtain ⟨V, hV⟩ : ∃ V, fph L f by1 = V := ⟨_, rfl⟩
  rw [hV]
  unfold fph at hV
  by_cases th : there L f = true
  case neg =>
    have th' : there L f = false := by cases z : there L f <;> simp_all
    rw [if_pos th'] at hV
    subst hV
    refine ⟨S, fun Q => ?_, xbf.rf S, bi, fun x => by omega⟩
    rw [th', zb1_f] at xt
    simp (disch := omega) only [bcd, true_and, and_true, and_self, if_true, if_false, ite_true, ite_false, reduceIte, Int.reduceEq, Int.reduceNe, Int.reduceLT, Int.reduceLE, Int.reduceAdd, Int.reduceSub, Int.reduceMul, Int.reduceNeg, Int.reduceMod, Int.reduceDiv, Int.reduceToNat, Nat.reduceAdd, Nat.reduceLeDiff, List.length_cons, List.length_nil, not_false_eq_true, not_true_eq_false, ne_eq, or_false, false_or, or_self, false_and, and_false, or_true, true_or, ite_self, Int.add_sub_cancel, Int.sub_add_cancel, b_lc1, b_lc2, b_lc3, b_lc4, b_lc5, up_eq, up_ei, up_n1, up_n2, W32i, W8i, W16i, W64i, if_ps, if_ng, and_tr, fil_n1, fil_in, fil_out, le_tt, le_ff, lt_tt, lt_ff, eq_tt, eq_ff, M9, xt]
  rw [th, zb1_t] at xt
  rw [if_neg (by rw [th]; decide)] at hV
  have k4 : S 113 4 = w0 f 4 := h.s.fl 4 (by omega)
  have k3 : S 113 3 = w0 f 3 := h.s.fl 3 (by omega)
  have a4 := t.fd 4 (by omega)
  have a3 := t.fd 3 (by omega)
  have nk := nk_in t.v (by omega) a4.2 (Or.inr t.l4.1) rfl
  have l4 := t.l4
  have v1 := fun Q => x_value h.d (w0 f 4 + 1) (by omega) (by omega) Q
  simp only [if_pos t.vf.1] at v1
  have v2 := fun Q => x_value h.d (w0 f 4 + 2) (by omega) (by omega) Q
  simp only [if_pos t.vf.2] at v2
  have v3 := fun Q => x_value h.d (w0 f 3) (by omega) a3.2 Q
  simp only [if_pos t.fe.1] at v3
  have ht := h.l.ht
  have eo : w0 f 4 + 1 + 1 = w0 f 4 + 2 := by omega
  by_cases q9 : L.ht < nt f (w0 f 4 + 1) ∨ nt f (w0 f 4 + 2) < L.ht
  case pos =>
    rw [if_pos q9] at hV
    subst hV
    refine ⟨S, fun Q => ?_, xbf.rf S, bi, fun x => by omega⟩
    by_cases q : L.ht < nt f (w0 f 4 + 1)
    · simp (disch := omega) only [bcd, true_and, and_true, and_self, if_true, if_false, ite_true, ite_false, reduceIte, Int.reduceEq, Int.reduceNe, Int.reduceLT, Int.reduceLE, Int.reduceAdd, Int.reduceSub, Int.reduceMul, Int.reduceNeg, Int.reduceMod, Int.reduceDiv, Int.reduceToNat, Nat.reduceAdd, Nat.reduceLeDiff, List.length_cons, List.length_nil, not_false_eq_true, not_true_eq_false, ne_eq, or_false, false_or, or_self, false_and, and_false, or_true, true_or, ite_self, Int.add_sub_cancel, Int.sub_add_cancel, b_lc1, b_lc2, b_lc3, b_lc4, b_lc5, up_eq, up_ei, up_n1, up_n2, W32i, W8i, W16i, W64i, if_ps, if_ng, and_tr, fil_n1, fil_in, fil_out, le_tt, le_ff, lt_tt, lt_ff, eq_tt, eq_ff, M9, M254, xt, k4, ht, v1]
    · have q' := q9.resolve_left q
      simp (disch := omega) only [bcd, true_and, and_true, and_self, if_true, if_false, ite_true, ite_false, reduceIte, Int.reduceEq, Int.reduceNe, Int.reduceLT, Int.reduceLE, Int.reduceAdd, Int.reduceSub, Int.reduceMul, Int.reduceNeg, Int.reduceMod, Int.reduceDiv, Int.reduceToNat, Nat.reduceAdd, Nat.reduceLeDiff, List.length_cons, List.length_nil, not_false_eq_true, not_true_eq_false, ne_eq, or_false, false_or, or_self, false_and, and_false, or_true, true_or, ite_self, Int.add_sub_cancel, Int.sub_add_cancel, b_lc1, b_lc2, b_lc3, b_lc4, b_lc5, up_eq, up_ei, up_n1, up_n2, W32i, W8i, W16i, W64i, if_ps, if_ng, and_tr, fil_n1, fil_in, fil_out, le_tt, le_ff, lt_tt, lt_ff, eq_tt, eq_ff, M9, M254, xt, k4, ht, v1, v2, eo]
  rw [if_neg q9] at hV
  have q91 : ¬ L.ht < nt f (w0 f 4 + 1) := fun x => q9 (Or.inl x)
  have q92 : ¬ nt f (w0 f 4 + 2) < L.ht := fun x => q9 (Or.inr x)
  have dv := zidiv8 b0.1 b0.2
  by_cases q10 : (nt f (w0 f 3)) < 10 + by1 / 8
  case pos =>
    rw [if_pos q10] at hV
    subst hV
    refine ⟨S, fun Q => ?_, xbf.rf S, bi, fun x => by omega⟩
    simp (disch := omega) only [bcd, true_and, and_true, and_self, if_true, if_false, ite_true, ite_false, reduceIte, Int.reduceEq, Int.reduceNe, Int.reduceLT, Int.reduceLE, Int.reduceAdd, Int.reduceSub, Int.reduceMul, Int.reduceNeg, Int.reduceMod, Int.reduceDiv, Int.reduceToNat, Nat.reduceAdd, Nat.reduceLeDiff, List.length_cons, List.length_nil, not_false_eq_true, not_true_eq_false, ne_eq, or_false, false_or, or_self, false_and, and_false, or_true, true_or, ite_self, Int.add_sub_cancel, Int.sub_add_cancel, b_lc1, b_lc2, b_lc3, b_lc4, b_lc5, up_eq, up_ei, up_n1, up_n2, W32i, W8i, W16i, W64i, if_ps, if_ng, and_tr, fil_n1, fil_in, fil_out, le_tt, le_ff, lt_tt, lt_ff, eq_tt, eq_ff, M9, M254, xt, k4, k3, ht, v1, v2, v3, eo, hb, dv]
  rw [if_neg q10] at hV
  obtain ⟨S1, vb, R, xb, bi1, vv, va, vz⟩ := x_isBal h bi th
  unfold zR at R
  rcases vv with vv | vv
  · have nb := vz vv
    rw [if_ps nb] at hV
    subst hV vv
    refine ⟨S1, fun Q => ?_, xb, bi1, fun x => by omega⟩
    simp (disch := omega) only [bcd, true_and, and_true, and_self, if_true, if_false, ite_true, ite_false, reduceIte, Int.reduceEq, Int.reduceNe, Int.reduceLT, Int.reduceLE, Int.reduceAdd, Int.reduceSub, Int.reduceMul, Int.reduceNeg, Int.reduceMod, Int.reduceDiv, Int.reduceToNat, Nat.reduceAdd, Nat.reduceLeDiff, List.length_cons, List.length_nil, not_false_eq_true, not_true_eq_false, ne_eq, or_false, false_or, or_self, false_and, and_false, or_true, true_or, ite_self, Int.add_sub_cancel, Int.sub_add_cancel, b_lc1, b_lc2, b_lc3, b_lc4, b_lc5, up_eq, up_ei, up_n1, up_n2, W32i, W8i, W16i, W64i, if_ps, if_ng, and_tr, fil_n1, fil_in, fil_out, le_tt, le_ff, lt_tt, lt_ff, eq_tt, eq_ff, M9, M254, xt, k4, k3, ht, v1, v2, v3, eo, hb, dv, R]
  obtain ⟨yb, n, B⟩ := va vv
  rw [if_ng (fun x => x yb), B.rn.k] at hV
  subst vv
  have h1 := h.xf xb
  have xs := fun Q => x_areSigned h1 th Q
  by_cases q12 : sgd L f = false
  case pos =>
    rw [if_pos q12] at hV
    subst hV
    refine ⟨S1, fun Q => ?_, xb, bi1, fun x => by omega⟩
    rw [q12, zb1_f] at xs
    simp (disch := omega) only [bcd, true_and, and_true, and_self, if_true, if_false, ite_true, ite_false, reduceIte, Int.reduceEq, Int.reduceNe, Int.reduceLT, Int.reduceLE, Int.reduceAdd, Int.reduceSub, Int.reduceMul, Int.reduceNeg, Int.reduceMod, Int.reduceDiv, Int.reduceToNat, Nat.reduceAdd, Nat.reduceLeDiff, List.length_cons, List.length_nil, not_false_eq_true, not_true_eq_false, ne_eq, or_false, false_or, or_self, false_and, and_false, or_true, true_or, ite_self, Int.add_sub_cancel, Int.sub_add_cancel, b_lc1, b_lc2, b_lc3, b_lc4, b_lc5, up_eq, up_ei, up_n1, up_n2, W32i, W8i, W16i, W64i, if_ps, if_ng, and_tr, fil_n1, fil_in, fil_out, le_tt, le_ff, lt_tt, lt_ff, eq_tt, eq_ff, M9, M254, xt, k4, k3, ht, v1, v2, v3, eo, hb, dv, R, xs]
  rw [if_neg q12] at hV
  have q12' : sgd L f = true := by cases z : sgd L f <;> simp_all
  rw [q12', zb1_t] at xs
  have xn := fun Q => x_needs h1 th Q
  have xc := fun Q => x_isColl h1 th Q
  by_cases q13 : nds L f = true ∧ cvd L f = false
  case pos =>
    rw [if_pos q13] at hV
    subst hV
    refine ⟨S1, fun Q => ?_, xb, bi1, fun x => by omega⟩
    rw [q13.1, zb1_t] at xn
    rw [q13.2, zb1_f] at xc
    simp (disch := omega) only [bcd, true_and, and_true, and_self, if_true, if_false, ite_true, ite_false, reduceIte, Int.reduceEq, Int.reduceNe, Int.reduceLT, Int.reduceLE, Int.reduceAdd, Int.reduceSub, Int.reduceMul, Int.reduceNeg, Int.reduceMod, Int.reduceDiv, Int.reduceToNat, Nat.reduceAdd, Nat.reduceLeDiff, List.length_cons, List.length_nil, not_false_eq_true, not_true_eq_false, ne_eq, or_false, false_or, or_self, false_and, and_false, or_true, true_or, ite_self, Int.add_sub_cancel, Int.sub_add_cancel, b_lc1, b_lc2, b_lc3, b_lc4, b_lc5, up_eq, up_ei, up_n1, up_n2, W32i, W8i, W16i, W64i, if_ps, if_ng, and_tr, fil_n1, fil_in, fil_out, le_tt, le_ff, lt_tt, lt_ff, eq_tt, eq_ff, M9, M254, xt, k4, k3, ht, v1, v2, v3, eo, hb, dv, R, xs, xn, xc]
  rw [if_neg q13] at hV
  have k2 : S1 113 2 = w0 f 2 := h1.s.fl 2 (by omega)
  have a2 := t.fd 2 (by omega)
  have l2 := t.l2
  have mn := fun Q => x_many h1.d (w0 f 2) (by omega) a2.2 (by have := l2.1; omega) Q
  obtain ⟨S', r2, xc2⟩ := x_lg (a := w0 f 4 + 1) (b := zb1 (nds L f)) (n1 := nc f (w0 f 2)) rfl (by cases nds L f <;> simp [zb1]) (nc f (w0 f 2)).toNat 0 S1 n h1 rfl B (by omega)
  rw [show ((0 : Nat) : Int) = 0 by rfl] at r2
  have eV : (if zall (lgk f) (nc f (w0 f 2)).toNat 0 = false then (14 : Int) else if 1024 < L.n + nc f (w0 f 2) then 15 else if zb1 (nds L f) = 1 ∧ 200 < ctxN f n then 16 else 0) = V := by
    rw [← hV]
    unfold lgd
    cases nds L f <;> simp [zb1]
  rw [eV] at r2
  have bi2 : BI S' := by
    have f1 := xc2.2 109 (by decide)
    have f2 := xc2.2 30 (by decide)
    have f3 := xc2.2 (S1 109 3) (by have := bi1.hb 3 (by omega) (by omega); omega)
    obtain ⟨bi1_hb, bi1_hs, bi1_nb, bi1_ns1, bi1_e3⟩ := bi1
    apply BI.mk1 <;> (try rw [f1]) <;> (try rw [f2]) <;> (try rw [f3]) <;> assumption
  refine ⟨S', fun Q => ?_, xb.tr xc2.xb, bi2, fun _ => ⟨n, ?_⟩⟩
  · have r2 := r2 Q
    rw [← r2]
    cases z : nds L f
    · simp only [z, zb1_f] at xn ⊢
      simp (disch := omega) only [bcd, true_and, and_true, and_self, if_true, if_false, ite_true, ite_false, reduceIte, Int.reduceEq, Int.reduceNe, Int.reduceLT, Int.reduceLE, Int.reduceAdd, Int.reduceSub, Int.reduceMul, Int.reduceNeg, Int.reduceMod, Int.reduceDiv, Int.reduceToNat, Nat.reduceAdd, Nat.reduceLeDiff, List.length_cons, List.length_nil, not_false_eq_true, not_true_eq_false, ne_eq, or_false, false_or, or_self, false_and, and_false, or_true, true_or, ite_self, Int.add_sub_cancel, Int.sub_add_cancel, b_lc1, b_lc2, b_lc3, b_lc4, b_lc5, up_eq, up_ei, up_n1, up_n2, W32i, W8i, W16i, W64i, if_ps, if_ng, and_tr, fil_n1, fil_in, fil_out, le_tt, le_ff, lt_tt, lt_ff, eq_tt, eq_ff, M9, M254, xt, k4, k3, ht, v1, v2, v3, eo, hb, dv, R, xs, xn, k2, mn]
    · have c1 : cvd L f = true := by cases y : cvd L f <;> simp_all
      simp only [z, c1, zb1_t] at xn xc ⊢
      simp (disch := omega) only [bcd, true_and, and_true, and_self, if_true, if_false, ite_true, ite_false, reduceIte, Int.reduceEq, Int.reduceNe, Int.reduceLT, Int.reduceLE, Int.reduceAdd, Int.reduceSub, Int.reduceMul, Int.reduceNeg, Int.reduceMod, Int.reduceDiv, Int.reduceToNat, Nat.reduceAdd, Nat.reduceLeDiff, List.length_cons, List.length_nil, not_false_eq_true, not_true_eq_false, ne_eq, or_false, false_or, or_self, false_and, and_false, or_true, true_or, ite_self, Int.add_sub_cancel, Int.sub_add_cancel, b_lc1, b_lc2, b_lc3, b_lc4, b_lc5, up_eq, up_ei, up_n1, up_n2, W32i, W8i, W16i, W64i, if_ps, if_ng, and_tr, fil_n1, fil_in, fil_out, le_tt, le_ff, lt_tt, lt_ff, eq_tt, eq_ff, M9, M254, xt, k4, k3, ht, v1, v2, v3, eo, hb, dv, R, xs, xn, xc, k2, mn]
  · rw [xc2.2 _ (by decide)]
    exact B.sc xc2
