-- uses: 59
/-- X's row holds data from a node on -/
def xseg (S : Sto) : Int → F → Prop
  | _, .leaf => True
  | k, .inner _ (fm, tg, tx) _ ks r => (S 98 k = zxk fm ∧ S 99 k = (if fm = 3 then tg else zct fm tx ks) ∧ S 100 k = (if fm = 0 then tg else 0) ∧ S 101 k = 1 + fsize ks ∧ S 102 k = 1 + fdep ks ∧ (fm = 4 → tx.length ≤ 64 ∧ ∀ j : Nat, j < tx.length → S 104 (64 * S 103 k + j) % 256 = tx.getD j 0)) ∧ xseg S (k + 1) ks ∧ xseg S (k + 1 + fsize ks) r
def xsm (S S' : Sto) (lo hi : Int) : Prop := ∀ i, lo ≤ i → i < hi → S' 98 i = S 98 i ∧ S' 99 i = S 99 i ∧ S' 100 i = S 100 i ∧ S' 101 i = S 101 i ∧ S' 102 i = S 102 i ∧ S' 103 i = S 103 i ∧ (S 98 i = 2 → ∀ j, 0 ≤ j → j < 64 → S' 104 (64 * S 103 i + j) = S 104 (64 * S 103 i + j))
theorem xlow.sm {S S' : Sto} {z : Int} (h : xlow S S' z) (lo hi : Int) (h0 : 0 ≤ lo) (h1 : hi ≤ z) : xsm S S' lo hi := fun i a b => h i (by omega) (by omega)
theorem xseg_cg {S S' : Sto} : ∀ (f : F) (k : Int), xsm S S' k (k + fsize f) → xseg S k f → xseg S' k f
  | .leaf, _, _, _ => trivial
  | .inner _ (fm, tg, tx) _ ks r, k, hs, h => by
    have s1 := fsize0 ks
    have s2 := fsize0 r
    simp only [fsize] at hs
    simp only [xseg] at h ⊢
    obtain ⟨⟨a1, a2, a3, a4, a5, a6⟩, b, c⟩ := h
    obtain ⟨e1, e2, e3, e4, e5, e6, e7⟩ := hs k (by omega) (by omega)
    rw [e1, e2, e3, e4, e5, e6]
    refine ⟨⟨a1, a2, a3, a4, a5, fun q => ⟨(a6 q).1, fun j hj => ?_⟩⟩, xseg_cg ks _ (fun i x y => hs i (by omega) (by omega)) b, xseg_cg r _ (fun i x y => hs i (by omega) (by omega)) c⟩
    have l := (a6 q).1
    rw [e7 (by rw [a1, q]; rfl) j (by omega) (by omega)]
    exact (a6 q).2 j hj
theorem fdep0 : ∀ f : F, 0 ≤ fdep f
  | .leaf => by simp [fdep]
  | .inner _ _ _ ks r => by have := fdep0 ks; have := fdep0 r; simp only [fdep]; split <;> omega
theorem fval_dep : ∀ (f : F) (lv : Int), fval lv f → lv ≤ 13 → fdep f ≤ 13 - lv
  | .leaf, lv, _, h => by simp only [fdep]; omega
  | .inner _ (fm, tg, tx) _ ks r, lv, ⟨_, a, _, b, c⟩, h => by
    have h1 := fval_dep ks (lv + 1) b (by omega)
    have h2 := fval_dep r lv c (by omega)
    simp only [fdep]
    split <;> omega
/-! measuring -/
theorem x_ms_l (S : Sto) (a : Int) : ∀ (r : F) (nx dd : Int) (Q : ZQ), xseg S nx r → 0 ≤ nx → nx + fsize r ≤ 1800 → 0 ≤ dd → dd ≤ 100 → fdep r ≤ 100 →
    zG Cd 195 (Cd 195 13) [(26, 26), (0, a), (0, nx), (0, dd), (0, flen r)] [] S Q = zG Cd 195 (Cd 195 44) [(26, 26), (0, a), (0, nx + fsize r), (0, if fdep r ≤ dd then dd else fdep r), (0, 0)] [] S Q
  | .leaf, nx, dd, Q, _, h0, h1, d0, d1, d2 => by
    rw [show flen (.leaf : F) = 0 by rfl, show fsize (.leaf : F) = 0 by rfl, show fdep (.leaf : F) = 0 by rfl, if_pos d0, Int.add_zero, L195_13]
    simp (disch := omega) only [bcd, true_and, and_true, and_self, if_true, if_false, ite_true, ite_false, reduceIte, Int.reduceEq, Int.reduceNe, Int.reduceLT, Int.reduceLE, Int.reduceAdd, Int.reduceSub, Int.reduceMul, Int.reduceNeg, Int.reduceMod, Int.reduceDiv, Int.reduceToNat, Nat.reduceAdd, Nat.reduceLeDiff, List.length_cons, List.length_nil, not_false_eq_true, not_true_eq_false, ne_eq, or_false, false_or, or_self, false_and, and_false, or_true, true_or, ite_self, Int.add_sub_cancel, Int.sub_add_cancel, b_lc1, b_lc2, b_lc3, b_lc4, b_lc5, up_eq, up_ei, up_n1, up_n2, W32i, W8i, W16i, W64i, if_ps, if_ng, and_tr, fil_n1, fil_in, fil_out, le_tt, le_ff, lt_tt, lt_ff, eq_tt, eq_ff]
  | .inner _ (fm, tg, tx) _ ks r, nx, dd, Q, h, h0, h1, d0, d1, d2 => by
    have s1 := fsize0 ks
    have s2 := fsize0 r
    have l0 := flen0 r
    have l1 := flen_le r
    have p1 := fdep0 ks
    have p2 := fdep0 r
    simp only [xseg] at h
    obtain ⟨⟨a1, a2, a3, a4, a5, a6⟩, b, c⟩ := h
    simp only [fsize] at h1
    have db : fdep r ≤ 100 ∧ 1 + fdep ks ≤ 100 := by simp only [fdep] at d2; split at d2 <;> omega
    have st : zG Cd 195 (Cd 195 13) [(26, 26), (0, a), (0, nx), (0, dd), (0, 1 + flen r)] [] S Q = zG Cd 195 (Cd 195 13) [(26, 26), (0, a), (0, nx + (1 + fsize ks)), (0, if 1 + fdep ks ≤ dd then dd else 1 + fdep ks), (0, flen r)] [] S Q := by
      conv => lhs; rw [L195_13]
      simp (disch := omega) only [bcd, true_and, and_true, and_self, if_true, if_false, ite_true, ite_false, reduceIte, Int.reduceEq, Int.reduceNe, Int.reduceLT, Int.reduceLE, Int.reduceAdd, Int.reduceSub, Int.reduceMul, Int.reduceNeg, Int.reduceMod, Int.reduceDiv, Int.reduceToNat, Nat.reduceAdd, Nat.reduceLeDiff, List.length_cons, List.length_nil, not_false_eq_true, not_true_eq_false, ne_eq, or_false, false_or, or_self, false_and, and_false, or_true, true_or, ite_self, Int.add_sub_cancel, Int.sub_add_cancel, b_lc1, b_lc2, b_lc3, b_lc4, b_lc5, up_eq, up_ei, up_n1, up_n2, W32i, W8i, W16i, W64i, if_ps, if_ng, and_tr, fil_n1, fil_in, fil_out, le_tt, le_ff, lt_tt, lt_ff, eq_tt, eq_ff, z_imax, a4, a5]
      rw [show 1 + flen r + -1 = flen r by omega]
    have ih := x_ms_l S a r (nx + (1 + fsize ks)) (if 1 + fdep ks ≤ dd then dd else 1 + fdep ks) Q (by rw [show nx + (1 + fsize ks) = nx + 1 + fsize ks by omega]; exact c) (by omega) (by omega) (by split <;> omega) (by split <;> omega) db.1
    rw [show flen (.inner _ (fm, tg, tx) _ ks r : F) = 1 + flen r by rfl, st, ih, show fsize (.inner _ (fm, tg, tx) _ ks r : F) = 1 + fsize ks + fsize r by rfl, show nx + (1 + fsize ks) + fsize r = nx + (1 + fsize ks + fsize r) by omega]
    congr 6
    simp only [fdep]
    (repeat' split) <;> omega
theorem x_meas (S : Sto) (Q : ZQ) (a kd c : Int) (ks : F) (a0 : 0 ≤ a) (hk : S 98 a = kd) (k4 : 4 ≤ kd) (hv : S 99 a = c) (hc : flen ks = if kd = 5 then 2 * c else c) (c0 : 0 ≤ c) (hs : xseg S (a + 1) ks) (h1 : a + 1 + fsize ks ≤ 1800) (hd : fdep ks ≤ 12) : zCall Cd 195 5 [(26, 26), (0, a)] S Q = Q (up (up S 101 a (1 + fsize ks)) 102 a (1 + fdep ks)) (9, 0) := by
  have s1 := fsize0 ks
  have l1 := flen_le ks
  have p1 := fdep0 ks
  have lp := x_ms_l S a ks (a + 1) 0 Q hs (by omega) h1 (by omega) (by omega) (by omega)
  rw [show (if fdep ks ≤ 0 then 0 else fdep ks) = fdep ks by split <;> omega] at lp
  by_cases q : kd = 5
  · rw [if_pos q] at hc
    rw [hc] at lp
    have e : c * 2 = 2 * c := by omega
    simp (disch := omega) only [bcd, true_and, and_true, and_self, if_true, if_false, ite_true, ite_false, reduceIte, Int.reduceEq, Int.reduceNe, Int.reduceLT, Int.reduceLE, Int.reduceAdd, Int.reduceSub, Int.reduceMul, Int.reduceNeg, Int.reduceMod, Int.reduceDiv, Int.reduceToNat, Nat.reduceAdd, Nat.reduceLeDiff, List.length_cons, List.length_nil, not_false_eq_true, not_true_eq_false, ne_eq, or_false, false_or, or_self, false_and, and_false, or_true, true_or, ite_self, Int.add_sub_cancel, Int.sub_add_cancel, b_lc1, b_lc2, b_lc3, b_lc4, b_lc5, up_eq, up_ei, up_n1, up_n2, W32i, W8i, W16i, W64i, if_ps, if_ng, and_tr, fil_n1, fil_in, fil_out, le_tt, le_ff, lt_tt, lt_ff, eq_tt, eq_ff, M195, M196, hk, hv, e, lp]
    rw [show a + 1 + fsize ks - a = 1 + fsize ks by omega, show fdep ks + 1 = 1 + fdep ks by omega]
  · rw [if_neg q] at hc
    rw [hc] at lp
    simp (disch := omega) only [bcd, true_and, and_true, and_self, if_true, if_false, ite_true, ite_false, reduceIte, Int.reduceEq, Int.reduceNe, Int.reduceLT, Int.reduceLE, Int.reduceAdd, Int.reduceSub, Int.reduceMul, Int.reduceNeg, Int.reduceMod, Int.reduceDiv, Int.reduceToNat, Nat.reduceAdd, Nat.reduceLeDiff, List.length_cons, List.length_nil, not_false_eq_true, not_true_eq_false, ne_eq, or_false, false_or, or_self, false_and, and_false, or_true, true_or, ite_self, Int.add_sub_cancel, Int.sub_add_cancel, b_lc1, b_lc2, b_lc3, b_lc4, b_lc5, up_eq, up_ei, up_n1, up_n2, W32i, W8i, W16i, W64i, if_ps, if_ng, and_tr, fil_n1, fil_in, fil_out, le_tt, le_ff, lt_tt, lt_ff, eq_tt, eq_ff, M195, M196, hk, hv, lp, Int.mul_one]
    rw [show a + 1 + fsize ks - a = 1 + fsize ks by omega, show fdep ks + 1 = 1 + fdep ks by omega]
