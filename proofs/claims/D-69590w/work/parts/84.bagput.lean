-- uses: 83
theorem b_bag {S : Sto} {k r : Int} (k0 : 0 ≤ k) (k1 : k < 8) (hk : S 109 k = r) (hr : r % 512 = 31) (Q : ZQ) : zCall Cd 216 2 [(30, 30), (0, k)] S Q = Q S (31, r) := by
  simp (disch := omega) only [bcd, true_and, and_true, and_self, if_true, if_false, ite_true, ite_false, reduceIte, Int.reduceEq, Int.reduceNe, Int.reduceLT, Int.reduceLE, Int.reduceAdd, Int.reduceSub, Int.reduceMul, Int.reduceNeg, Int.reduceMod, Int.reduceDiv, Int.reduceToNat, Nat.reduceAdd, Nat.reduceLeDiff, List.length_cons, List.length_nil, not_false_eq_true, not_true_eq_false, ne_eq, or_false, false_or, or_self, false_and, and_false, or_true, true_or, ite_self, Int.add_sub_cancel, Int.sub_add_cancel, b_lc1, b_lc2, b_lc3, b_lc4, b_lc5, up_eq, up_ei, up_n1, up_n2, W32i, W8i, W16i, W64i, if_ps, if_ng, and_tr, fil_n1, fil_in, fil_out, le_tt, le_ff, lt_tt, lt_ff, eq_tt, eq_ff, M216, hk]
theorem bg_put {S : Sto} {k r n : Int} {g : Int → Int → Int} (k0 : 0 ≤ k) (k1 : k < 8) (hk : S 109 k = r) (h : BG S r n g) (p m v : Int) (hp : 0 ≤ p ∧ p < 65536) (hm : zLong m) (hv : zLong v) (gl : zLong (g p m)) (n2 : n < 160) (hs : zLong (g p m + v)) : ∃ S' n', zR 217 10 [(30, 30), (0, k), (0, p), (1, m), (1, v)] S S' (0, 1) ∧ BG S' r n' (gad g p m v) ∧ bfr r S S' ∧ n' ≤ n + 1 := by
  have hr := h.hr
  have bb := fun Q => b_bag k0 k1 hk hr Q
  have gt := fun Q => b_get h p m hm Q
  have ov := fun Q => b_over S Q (g p m) v gl hv hs
  obtain ⟨S', n', R, B, fr, nn⟩ := b_set h p m (g p m + v) hp hm n2
  rw [← gad_up] at B
  unfold zR at R
  have hs' := hs
  unfold zLong at hs'
  have w := W64i hs'.1 hs'.2
  refine ⟨S', n', fun Q => ?_, B, fr, nn⟩
  simp (disch := omega) only [bcd, true_and, and_true, and_self, if_true, if_false, ite_true, ite_false, reduceIte, Int.reduceEq, Int.reduceNe, Int.reduceLT, Int.reduceLE, Int.reduceAdd, Int.reduceSub, Int.reduceMul, Int.reduceNeg, Int.reduceMod, Int.reduceDiv, Int.reduceToNat, Nat.reduceAdd, Nat.reduceLeDiff, List.length_cons, List.length_nil, not_false_eq_true, not_true_eq_false, ne_eq, or_false, false_or, or_self, false_and, and_false, or_true, true_or, ite_self, Int.add_sub_cancel, Int.sub_add_cancel, b_lc1, b_lc2, b_lc3, b_lc4, b_lc5, up_eq, up_ei, up_n1, up_n2, W32i, W8i, W16i, W64i, if_ps, if_ng, and_tr, fil_n1, fil_in, fil_out, le_tt, le_ff, lt_tt, lt_ff, eq_tt, eq_ff, M217, M218, bb, gt, ov, w, R]
theorem bg_put0 {S : Sto} {k r n : Int} {g : Int → Int → Int} (k0 : 0 ≤ k) (k1 : k < 8) (hk : S 109 k = r) (h : BG S r n g) (p m v : Int) (hp : 0 ≤ p ∧ p < 65536) (hm : zLong m) (hv : zLong v) (gl : zLong (g p m)) (hs : ¬ zLong (g p m + v)) (Q : ZQ) : zCall Cd 217 10 [(30, 30), (0, k), (0, p), (1, m), (1, v)] S Q = Q S (0, 0) := by
  have hr := h.hr
  have bb := fun Q => b_bag k0 k1 hk hr Q
  have gt := fun Q => b_get h p m hm Q
  have ov := fun Q => b_over1 S Q (g p m) v gl hv hs
  simp (disch := omega) only [bcd, true_and, and_true, and_self, if_true, if_false, ite_true, ite_false, reduceIte, Int.reduceEq, Int.reduceNe, Int.reduceLT, Int.reduceLE, Int.reduceAdd, Int.reduceSub, Int.reduceMul, Int.reduceNeg, Int.reduceMod, Int.reduceDiv, Int.reduceToNat, Nat.reduceAdd, Nat.reduceLeDiff, List.length_cons, List.length_nil, not_false_eq_true, not_true_eq_false, ne_eq, or_false, false_or, or_self, false_and, and_false, or_true, true_or, ite_self, Int.add_sub_cancel, Int.sub_add_cancel, b_lc1, b_lc2, b_lc3, b_lc4, b_lc5, up_eq, up_ei, up_n1, up_n2, W32i, W8i, W16i, W64i, if_ps, if_ng, and_tr, fil_n1, fil_in, fil_out, le_tt, le_ff, lt_tt, lt_ff, eq_tt, eq_ff, M217, M218, bb, gt, ov]
/-- where the bags are -/
def BI (S : Sto) : Prop := (∀ k, 0 ≤ k → k < 8 → S 109 k % 512 = 31) ∧ (S 30 1 % 512 = 31) ∧ (∀ j k, 0 ≤ j → j < k → k < 8 → S 109 j ≠ S 109 k) ∧ (∀ k, 0 ≤ k → k < 8 → S 109 k ≠ S 30 1) ∧ (S (S 109 3) 3 = 0)
theorem BI.mk1 {S : Sto} (hb : ∀ k, 0 ≤ k → k < 8 → S 109 k % 512 = 31) (hs : S 30 1 % 512 = 31) (nb : ∀ j k, 0 ≤ j → j < k → k < 8 → S 109 j ≠ S 109 k) (ns1 : ∀ k, 0 ≤ k → k < 8 → S 109 k ≠ S 30 1) (e3 : S (S 109 3) 3 = 0) : BI S := by unfold BI; exact ⟨hb, hs, nb, ns1, e3⟩
theorem BI.hb {S : Sto} (h : BI S) : ∀ k, 0 ≤ k → k < 8 → S 109 k % 512 = 31 := by unfold BI at h; exact h.1
theorem BI.hs {S : Sto} (h : BI S) : S 30 1 % 512 = 31 := by unfold BI at h; exact h.2.1
theorem BI.nb {S : Sto} (h : BI S) : ∀ j k, 0 ≤ j → j < k → k < 8 → S 109 j ≠ S 109 k := by unfold BI at h; exact h.2.2.1
theorem BI.ns1 {S : Sto} (h : BI S) : ∀ k, 0 ≤ k → k < 8 → S 109 k ≠ S 30 1 := by unfold BI at h; exact h.2.2.2.1
theorem BI.e3 {S : Sto} (h : BI S) : S (S 109 3) 3 = 0 := by unfold BI at h; exact h.2.2.2.2
theorem BI.fr {S S' : Sto} {r : Int} (h : BI S) (e : bfr r S S') (hr : r % 512 = 31) (r3 : r ≠ S 109 3) : BI S' := by
  have e1 := e.1 109 (by omega) (by omega) (by omega) (by omega)
  have e2 := e.1 30 (by omega) (by omega) (by omega) (by omega)
  have b3 := h.hb 3 (by omega) (by omega)
  have e4 := e.1 (S 109 3) (fun x => r3 x.symm) (by omega) (by omega) (by omega)
  obtain ⟨h_hb, h_hs, h_nb, h_ns1, h_e3⟩ := h
  apply BI.mk1 <;> (try rw [e1]) <;> (try rw [e2]) <;> (try rw [e4]) <;> assumption
/-- a bag is emptied -/
theorem BG_emp {S : Sto} {r : Int} (hr : r % 512 = 31) : BG (up S r 3 0) r 0 (fun _ _ => 0) := by
  apply BG.mk1
  case hr => exact hr
  case n1 => omega
  case sz => simp (disch := omega) only [true_and, and_true, and_self, if_true, if_false, ite_true, ite_false, reduceIte, Int.reduceEq, Int.reduceNe, Int.reduceLT, Int.reduceLE, Int.reduceAdd, Int.reduceSub, Int.reduceMul, Int.reduceNeg, Int.reduceMod, Int.reduceDiv, Int.reduceToNat, Nat.reduceAdd, Nat.reduceLeDiff, List.length_cons, List.length_nil, not_false_eq_true, not_true_eq_false, ne_eq, or_false, false_or, or_self, false_and, and_false, or_true, true_or, ite_self, Int.add_sub_cancel, Int.sub_add_cancel, b_lc1, b_lc2, b_lc3, b_lc4, b_lc5, up_eq, up_ei, up_n1, up_n2, W32i, W8i, W16i, W64i, if_ps, if_ng, and_tr, fil_n1, fil_in, fil_out]
  case ks => apply KS.mk1 <;> intros <;> omega
  case rp =>
    apply RP.mk1
    · intros; omega
    · intros; rfl
  case nz => intros; omega
theorem b_clear {S : Sto} {k r : Int} (k0 : 0 ≤ k) (k1 : k < 8) (hk : S 109 k = r) (hr : r % 512 = 31) (Q : ZQ) : zCall Cd 215 2 [(30, 30), (0, k)] S Q = Q (up S r 3 0) (9, 0) := by
  have bb := fun Q => b_bag k0 k1 hk hr Q
  simp (disch := omega) only [bcd, true_and, and_true, and_self, if_true, if_false, ite_true, ite_false, reduceIte, Int.reduceEq, Int.reduceNe, Int.reduceLT, Int.reduceLE, Int.reduceAdd, Int.reduceSub, Int.reduceMul, Int.reduceNeg, Int.reduceMod, Int.reduceDiv, Int.reduceToNat, Nat.reduceAdd, Nat.reduceLeDiff, List.length_cons, List.length_nil, not_false_eq_true, not_true_eq_false, ne_eq, or_false, false_or, or_self, false_and, and_false, or_true, true_or, ite_self, Int.add_sub_cancel, Int.sub_add_cancel, b_lc1, b_lc2, b_lc3, b_lc4, b_lc5, up_eq, up_ei, up_n1, up_n2, W32i, W8i, W16i, W64i, if_ps, if_ng, and_tr, fil_n1, fil_in, fil_out, le_tt, le_ff, lt_tt, lt_ff, eq_tt, eq_ff, M215, bb]
theorem bfr_sz {S : Sto} {r v : Int} : bfr r S (up S r 3 v) := ⟨fun b a1 a2 a3 a4 => by simp (disch := omega) only [true_and, and_true, and_self, if_true, if_false, ite_true, ite_false, reduceIte, Int.reduceEq, Int.reduceNe, Int.reduceLT, Int.reduceLE, Int.reduceAdd, Int.reduceSub, Int.reduceMul, Int.reduceNeg, Int.reduceMod, Int.reduceDiv, Int.reduceToNat, Nat.reduceAdd, Nat.reduceLeDiff, List.length_cons, List.length_nil, not_false_eq_true, not_true_eq_false, ne_eq, or_false, false_or, or_self, false_and, and_false, or_true, true_or, ite_self, Int.add_sub_cancel, Int.sub_add_cancel, b_lc1, b_lc2, b_lc3, b_lc4, b_lc5, up_eq, up_ei, up_n1, up_n2, W32i, W8i, W16i, W64i, if_ps, if_ng, and_tr, fil_n1, fil_in, fil_out, up_fn], fun f a => by simp (disch := omega) only [true_and, and_true, and_self, if_true, if_false, ite_true, ite_false, reduceIte, Int.reduceEq, Int.reduceNe, Int.reduceLT, Int.reduceLE, Int.reduceAdd, Int.reduceSub, Int.reduceMul, Int.reduceNeg, Int.reduceMod, Int.reduceDiv, Int.reduceToNat, Nat.reduceAdd, Nat.reduceLeDiff, List.length_cons, List.length_nil, not_false_eq_true, not_true_eq_false, ne_eq, or_false, false_or, or_self, false_and, and_false, or_true, true_or, ite_self, Int.add_sub_cancel, Int.sub_add_cancel, b_lc1, b_lc2, b_lc3, b_lc4, b_lc5, up_eq, up_ei, up_n1, up_n2, W32i, W8i, W16i, W64i, if_ps, if_ng, and_tr, fil_n1, fil_in, fil_out]⟩
