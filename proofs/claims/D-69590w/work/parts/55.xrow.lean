-- uses: 54
/-! places for texts -/
def zc2 (K : Int → Int) : Nat → Int
  | 0 => 0
  | m + 1 => zc2 K m + (if K m = 2 then 1 else 0)
theorem zc2_cg {K K' : Int → Int} : ∀ (m : Nat), (∀ n : Int, 0 ≤ n → n < m → K n = K' n) → zc2 K m = zc2 K' m := by
  intro m
  induction m with
  | zero => intros; rfl
  | succ m ih => intro h; rw [zc2, zc2, h m (by omega) (by omega), ih (fun n h1 h2 => h n h1 (by omega))]
theorem zc2_le (K : Int → Int) : ∀ m : Nat, 0 ≤ zc2 K m ∧ zc2 K m ≤ m := by
  intro m
  induction m with
  | zero => simp [zc2]
  | succ m ih => rw [zc2]; split <;> omega
def XF (K T R : Int → Int) (n z : Int) : Prop := (0 ≤ z) ∧ (0 ≤ n) ∧ (∀ i, 0 ≤ i → i < n → 0 ≤ R i ∧ R i < 1800) ∧ (∀ i j, 0 ≤ i → i < j → j < n → R i ≠ R j) ∧ (∀ k, 0 ≤ k → k < z → K k = 2 → 0 ≤ T k ∧ T k < 1800) ∧ (∀ k l, 0 ≤ k → k < l → l < z → K k = 2 → K l = 2 → T k ≠ T l) ∧ (∀ k i, 0 ≤ k → k < z → K k = 2 → 0 ≤ i → i < n → T k ≠ R i) ∧ (n + zc2 K z.toNat = 1800)
theorem XF.mk1 {K T R : Int → Int} {n z : Int} (zz : 0 ≤ z) (nn : 0 ≤ n) (fv : ∀ i, 0 ≤ i → i < n → 0 ≤ R i ∧ R i < 1800) (fi : ∀ i j, 0 ≤ i → i < j → j < n → R i ≠ R j) (tv : ∀ k, 0 ≤ k → k < z → K k = 2 → 0 ≤ T k ∧ T k < 1800) (ti : ∀ k l, 0 ≤ k → k < l → l < z → K k = 2 → K l = 2 → T k ≠ T l) (tf : ∀ k i, 0 ≤ k → k < z → K k = 2 → 0 ≤ i → i < n → T k ≠ R i) (ct : n + zc2 K z.toNat = 1800) : XF K T R n z := by unfold XF; exact ⟨zz, nn, fv, fi, tv, ti, tf, ct⟩
theorem XF.zz {K T R : Int → Int} {n z : Int} (h : XF K T R n z) : 0 ≤ z := by unfold XF at h; exact h.1
theorem XF.nn {K T R : Int → Int} {n z : Int} (h : XF K T R n z) : 0 ≤ n := by unfold XF at h; exact h.2.1
theorem XF.fv {K T R : Int → Int} {n z : Int} (h : XF K T R n z) : ∀ i, 0 ≤ i → i < n → 0 ≤ R i ∧ R i < 1800 := by unfold XF at h; exact h.2.2.1
theorem XF.fi {K T R : Int → Int} {n z : Int} (h : XF K T R n z) : ∀ i j, 0 ≤ i → i < j → j < n → R i ≠ R j := by unfold XF at h; exact h.2.2.2.1
theorem XF.tv {K T R : Int → Int} {n z : Int} (h : XF K T R n z) : ∀ k, 0 ≤ k → k < z → K k = 2 → 0 ≤ T k ∧ T k < 1800 := by unfold XF at h; exact h.2.2.2.2.1
theorem XF.ti {K T R : Int → Int} {n z : Int} (h : XF K T R n z) : ∀ k l, 0 ≤ k → k < l → l < z → K k = 2 → K l = 2 → T k ≠ T l := by unfold XF at h; exact h.2.2.2.2.2.1
theorem XF.tf {K T R : Int → Int} {n z : Int} (h : XF K T R n z) : ∀ k i, 0 ≤ k → k < z → K k = 2 → 0 ≤ i → i < n → T k ≠ R i := by unfold XF at h; exact h.2.2.2.2.2.2.1
theorem XF.ct {K T R : Int → Int} {n z : Int} (h : XF K T R n z) : n + zc2 K z.toNat = 1800 := by unfold XF at h; exact h.2.2.2.2.2.2.2
theorem XF.n0 {K T R : Int → Int} {n z : Int} (h : XF K T R n z) (hz : z < 1800) : 0 < n := by
  have := zc2_le K z.toNat
  have := h.ct
  have := h.zz
  omega
theorem XF.nb {K T R : Int → Int} {n z : Int} (h : XF K T R n z) : n ≤ 1800 := by
  have := zc2_le K z.toNat
  have := h.ct
  omega
theorem XF.push {K T R : Int → Int} {n z kd t : Int} (h : XF K T R n z) (hk : kd ≠ 2) : XF (fset K z kd) (fset T z t) R n (z + 1) := by
  have z0 := h.zz
  apply XF.mk1
  case zz => omega
  case nn => exact h.nn
  case fv => exact h.fv
  case fi => exact h.fi
  case tv => intro k a b c; simp only [fset] at c ⊢; split at c; · omega
             · rename_i q; rw [if_neg q]; exact h.tv k a (by omega) c
  case ti =>
    intro k l a b c d e
    simp only [fset] at d e ⊢
    split at e
    · omega
    · rename_i q
      rw [if_neg (by omega)] at d
      rw [if_neg (by omega), if_neg q]
      exact h.ti k l a b (by omega) d e
  case tf =>
    intro k i a b c d e
    simp only [fset] at c ⊢
    split at c
    · omega
    · rename_i q; rw [if_neg q]; exact h.tf k i a (by omega) c d e
  case ct =>
    rw [show (z + 1).toNat = z.toNat + 1 by omega, zc2, zc2_cg (K' := K), show (z.toNat : Int) = z by omega, fset_e _ _ _ _ rfl, if_neg hk]
    · have := h.ct; omega
    · intro i a b; exact fset_n _ _ _ _ (by omega)
theorem XF.push2 {K T R : Int → Int} {n z : Int} (h : XF K T R n z) (hn : 0 < n) : XF (fset K z 2) (fset T z (R (n - 1))) R (n - 1) (z + 1) := by
  have z0 := h.zz
  have nb := h.nb
  apply XF.mk1
  case zz => omega
  case nn => omega
  case fv => intro i a b; exact h.fv i a (by omega)
  case fi => intro i j a b c; exact h.fi i j a b (by omega)
  case tv =>
    intro k a b c
    simp only [fset] at c ⊢
    by_cases q : k = z
    · rw [if_pos q]; exact h.fv (n - 1) (by omega) (by omega)
    · rw [if_neg q] at c ⊢; exact h.tv k a (by omega) c
  case ti =>
    intro k l a b c d e
    simp only [fset] at d e ⊢
    rw [if_neg (by omega)] at d ⊢
    by_cases q : l = z
    · rw [if_pos q]; exact h.tf k (n - 1) a (by omega) d (by omega) (by omega)
    · rw [if_neg q] at e ⊢; exact h.ti k l a b (by omega) d e
  case tf =>
    intro k i a b c d e
    simp only [fset] at c ⊢
    by_cases q : k = z
    · rw [if_pos q]; exact fun x => h.fi i (n - 1) d (by omega) (by omega) x.symm
    · rw [if_neg q] at c ⊢; exact h.tf k i a (by omega) c d (by omega)
  case ct =>
    rw [show (z + 1).toNat = z.toNat + 1 by omega, zc2, zc2_cg (K' := K), show (z.toNat : Int) = z by omega, fset_e _ _ _ _ rfl, if_pos rfl]
    · have := h.ct; omega
    · intro i a b; exact fset_n _ _ _ _ (by omega)
theorem XF.pop {K T R : Int → Int} {n z : Int} (h : XF K T R n (z + 1)) (h0 : 0 ≤ z) (hk : K z ≠ 2) : XF K T R n z := by
  apply XF.mk1
  case zz => exact h0
  case nn => exact h.nn
  case fv => exact h.fv
  case fi => exact h.fi
  case tv => intro k a b c; exact h.tv k a (by omega) c
  case ti => intro k l a b c d e; exact h.ti k l a b (by omega) d e
  case tf => intro k i a b c d e; exact h.tf k i a (by omega) c d e
  case ct =>
    have := h.ct
    rw [show (z + 1).toNat = z.toNat + 1 by omega, zc2, show (z.toNat : Int) = z by omega, if_neg hk] at this
    omega
theorem XF.pop2 {K T R : Int → Int} {n z : Int} (h : XF K T R n (z + 1)) (h0 : 0 ≤ z) (hk : K z = 2) : XF K T (fset R n (T z)) (n + 1) z := by
  have nn := h.nn
  apply XF.mk1
  case zz => exact h0
  case nn => omega
  case fv =>
    intro i a b
    by_cases q : i = n
    · rw [fset_e _ _ _ _ q]; exact h.tv z h0 (by omega) hk
    · rw [fset_n _ _ _ _ q]; exact h.fv i a (by omega)
  case fi =>
    intro i j a b c
    rw [fset_n _ _ _ _ (by omega)]
    by_cases q : j = n
    · rw [fset_e _ _ _ _ q]; exact fun x => h.tf z i h0 (by omega) hk a (by omega) x.symm
    · rw [fset_n _ _ _ _ q]; exact h.fi i j a b (by omega)
  case tv => intro k a b c; exact h.tv k a (by omega) c
  case ti => intro k l a b c d e; exact h.ti k l a b (by omega) d e
  case tf =>
    intro k i a b c d e
    by_cases q : i = n
    · rw [fset_e _ _ _ _ q]; exact h.ti k z a (by omega) (by omega) c hk
    · rw [fset_n _ _ _ _ q]; exact h.tf k i a (by omega) c d (by omega)
  case ct =>
    have := h.ct
    rw [show (z + 1).toNat = z.toNat + 1 by omega, zc2, show (z.toNat : Int) = z by omega, if_pos hk] at this
    omega
def XFs (S : Sto) : Prop := XF (S 98) (S 103) (S 105) (S 26 8) (S 26 9)
/-! setting a node -/
def xW (S : Sto) (a kd v n t : Int) : Sto := up (up (up (up (up (up S 98 a kd) 99 a v) 100 a n) 101 a 1) 102 a 1) 103 a t
theorem x_set (S : Sto) (Q : ZQ) (a kd v n : Int) (h0 : 0 ≤ a) (h1 : a < 1800) (hk : 0 ≤ kd ∧ kd < 7) (hk2 : kd ≠ 2) (hn : 0 ≤ n ∧ n ≤ 127) : zCall Cd 192 6 [(26, 26), (0, a), (0, kd), (1, v), (0, n)] S Q = Q (xW S a kd v n 0) (9, 0) := by
  unfold xW
  simp (disch := omega) only [bcd, true_and, and_true, and_self, if_true, if_false, ite_true, ite_false, reduceIte, Int.reduceEq, Int.reduceNe, Int.reduceLT, Int.reduceLE, Int.reduceAdd, Int.reduceSub, Int.reduceMul, Int.reduceNeg, Int.reduceMod, Int.reduceDiv, Int.reduceToNat, Nat.reduceAdd, Nat.reduceLeDiff, List.length_cons, List.length_nil, not_false_eq_true, not_true_eq_false, ne_eq, or_false, false_or, or_self, false_and, and_false, or_true, true_or, ite_self, Int.add_sub_cancel, Int.sub_add_cancel, b_lc1, b_lc2, b_lc3, b_lc4, b_lc5, up_eq, up_ei, up_n1, up_n2, W32i, W8i, W16i, W64i, if_ps, if_ng, and_tr, fil_n1, fil_in, fil_out, le_tt, le_ff, lt_tt, lt_ff, eq_tt, eq_ff, M192]
theorem x_set2 (S : Sto) (Q : ZQ) (a : Int) (h0 : 0 ≤ a) (h1 : a < 1800) (f0 : 0 < S 26 8) (f1 : S 26 8 ≤ 1800) (f2 : 0 ≤ S 105 (S 26 8 - 1) ∧ S 105 (S 26 8 - 1) < 1800) : zCall Cd 192 6 [(26, 26), (0, a), (0, 2), (1, 0), (0, 0)] S Q = Q (xW (up S 26 8 (S 26 8 - 1)) a 2 0 0 (S 105 (S 26 8 - 1))) (9, 0) := by
  unfold xW
  simp (disch := omega) only [bcd, true_and, and_true, and_self, if_true, if_false, ite_true, ite_false, reduceIte, Int.reduceEq, Int.reduceNe, Int.reduceLT, Int.reduceLE, Int.reduceAdd, Int.reduceSub, Int.reduceMul, Int.reduceNeg, Int.reduceMod, Int.reduceDiv, Int.reduceToNat, Nat.reduceAdd, Nat.reduceLeDiff, List.length_cons, List.length_nil, not_false_eq_true, not_true_eq_false, ne_eq, or_false, false_or, or_self, false_and, and_false, or_true, true_or, ite_self, Int.add_sub_cancel, Int.sub_add_cancel, b_lc1, b_lc2, b_lc3, b_lc4, b_lc5, up_eq, up_ei, up_n1, up_n2, W32i, W8i, W16i, W64i, if_ps, if_ng, and_tr, fil_n1, fil_in, fil_out, le_tt, le_ff, lt_tt, lt_ff, eq_tt, eq_ff, M192, M193]
  congr 1
  funext b j
  simp only [up]
  (repeat' split) <;> first | rfl | omega
