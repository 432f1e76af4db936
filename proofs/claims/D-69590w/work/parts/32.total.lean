-- uses: 30
/-! what is live of a kind -/
def zlk (pol nam am : Int → Int) (p nm : Int) : Nat → Int → Int
  | 0, _ => 0
  | c + 1, k => if pol k = p ∧ nam k = nm then am k else zlk pol nam am p nm c (k + 1)
theorem zlk_cg {pol nam am pol' nam' am' : Int → Int} {p nm : Int} : ∀ (c : Nat) (k : Int), (∀ j, k ≤ j → j < k + c → pol j = pol' j ∧ nam j = nam' j ∧ am j = am' j) → zlk pol nam am p nm c k = zlk pol' nam' am' p nm c k := by
  intro c
  induction c with
  | zero => intros; rfl
  | succ c ih =>
    intro k h
    have a := h k (by omega) (by omega)
    rw [zlk, zlk, a.1, a.2.1, a.2.2, ih (k + 1) (fun j h1 h2 => h j (by omega) (by omega))]
def ztt (sp f : Int → Int) : Nat → Int
  | 0 => 0
  | m + 1 => ztt sp f m + (if sp m < 0 then f m else 0)
theorem ztt_cg {sp f sp' f' : Int → Int} : ∀ (m : Nat), (∀ n : Int, 0 ≤ n → n < m → sp n = sp' n ∧ f n = f' n) → ztt sp f m = ztt sp' f' m := by
  intro m
  induction m with
  | zero => intros; rfl
  | succ m ih =>
    intro h
    have a := h m (by omega) (by omega)
    rw [ztt, ztt, a.1, a.2, ih (fun n h1 h2 => h n h1 (by omega))]
theorem W64add (a b : Int) : w64 (w64 a + b) = w64 (a + b) := by unfold w64; simp
theorem W64add' (a b : Int) : w64 (a + w64 b) = w64 (a + b) := by rw [Int.add_comm, W64add, Int.add_comm]
/-- X: a kind's amount in an output -/
theorem x_amt_l (S : Sto) (Q : ZQ) (n p nm : Int) (h0 : 0 ≤ n) (h1 : n < 1024) (h2 : 0 ≤ S 56 n) (h3 : S 56 n ≤ 8) : ∀ (c : Nat) (k : Int), k + c = 8 * n + S 56 n → 8 * n ≤ k →
    zG Cd 47 (Cd 47 6) [(12, 12), (0, n), (0, p), (1, nm), (9, 0), (0, k)] [] S Q = Q S (1, zlk (S 57) (S 58) (S 59) p nm c k) := by
  intro c
  induction c with
  | zero =>
    intro k hk hl
    rw [L47_6]
    simp (disch := omega) only [bcd, true_and, and_true, and_self, if_true, if_false, ite_true, ite_false, reduceIte, Int.reduceEq, Int.reduceNe, Int.reduceLT, Int.reduceLE, Int.reduceAdd, Int.reduceSub, Int.reduceMul, Int.reduceNeg, Int.reduceMod, Int.reduceDiv, Int.reduceToNat, Nat.reduceAdd, Nat.reduceLeDiff, List.length_cons, List.length_nil, not_false_eq_true, not_true_eq_false, ne_eq, or_false, false_or, or_self, false_and, and_false, or_true, true_or, ite_self, Int.add_sub_cancel, Int.sub_add_cancel, b_lc1, b_lc2, b_lc3, b_lc4, b_lc5, up_eq, up_ei, up_n1, up_n2, W32i, W8i, W16i, W64i, if_ps, if_ng, and_tr, fil_n1, fil_in, fil_out, M47]
    rfl
  | succ c ih =>
    intro k hk hl
    rw [L47_6]
    simp (disch := omega) only [bcd, true_and, and_true, and_self, if_true, if_false, ite_true, ite_false, reduceIte, Int.reduceEq, Int.reduceNe, Int.reduceLT, Int.reduceLE, Int.reduceAdd, Int.reduceSub, Int.reduceMul, Int.reduceNeg, Int.reduceMod, Int.reduceDiv, Int.reduceToNat, Nat.reduceAdd, Nat.reduceLeDiff, List.length_cons, List.length_nil, not_false_eq_true, not_true_eq_false, ne_eq, or_false, false_or, or_self, false_and, and_false, or_true, true_or, ite_self, Int.add_sub_cancel, Int.sub_add_cancel, b_lc1, b_lc2, b_lc3, b_lc4, b_lc5, up_eq, up_ei, up_n1, up_n2, W32i, W8i, W16i, W64i, if_ps, if_ng, and_tr, fil_n1, fil_in, fil_out, M47, b_lc1]
    rw [ih (k + 1) (by omega) (by omega), zlk]
    by_cases a : S 57 k = p <;> by_cases b : S 58 k = nm <;> simp [a, b]
def zxa (S : Sto) (p nm n : Int) : Int := zlk (S 57) (S 58) (S 59) p nm (S 56 n).toNat (8 * n)
theorem x_amt (S : Sto) (Q : ZQ) (n p nm : Int) (h0 : 0 ≤ n) (h1 : n < 1024) (h2 : 0 ≤ S 56 n) (h3 : S 56 n ≤ 8) :
    zCall Cd 47 6 [(12, 12), (0, n), (0, p), (1, nm)] S Q = Q S (1, zxa S p nm n) := by
  simp (disch := omega) only [bcd, true_and, and_true, and_self, if_true, if_false, ite_true, ite_false, reduceIte, Int.reduceEq, Int.reduceNe, Int.reduceLT, Int.reduceLE, Int.reduceAdd, Int.reduceSub, Int.reduceMul, Int.reduceNeg, Int.reduceMod, Int.reduceDiv, Int.reduceToNat, Nat.reduceAdd, Nat.reduceLeDiff, List.length_cons, List.length_nil, not_false_eq_true, not_true_eq_false, ne_eq, or_false, false_or, or_self, false_and, and_false, or_true, true_or, ite_self, Int.add_sub_cancel, Int.sub_add_cancel, b_lc1, b_lc2, b_lc3, b_lc4, b_lc5, up_eq, up_ei, up_n1, up_n2, W32i, W8i, W16i, W64i, if_ps, if_ng, and_tr, fil_n1, fil_in, fil_out, M47]
  rw [x_amt_l S Q n p nm h0 h1 h2 h3 (S 56 n).toNat _ (by omega) (by omega)]
  rfl
def zxok (S : Sto) : Prop := 0 ≤ S 12 9 ∧ S 12 9 ≤ 1024 ∧ ∀ n, 0 ≤ n → n < S 12 9 → 0 ≤ S 56 n ∧ S 56 n ≤ 8
theorem x_tot_l (S : Sto) (Q : ZQ) (p nm : Int) (h : zxok S) : ∀ (c : Nat) (n : Int), n + c = S 12 9 → 0 ≤ n →
    zG Cd 46 (Cd 46 6) [(12, 12), (0, p), (1, nm), (9, 0), (1, w64 (ztt (S 55) (zxa S p nm) n.toNat)), (9, 0), (0, n)] [] S Q = Q S (1, w64 (ztt (S 55) (zxa S p nm) (S 12 9).toNat)) := by
  obtain ⟨h0, h1, h2⟩ := h
  intro c
  induction c with
  | zero =>
    intro n hn hp
    rw [L46_6]
    simp (disch := omega) only [bcd, true_and, and_true, and_self, if_true, if_false, ite_true, ite_false, reduceIte, Int.reduceEq, Int.reduceNe, Int.reduceLT, Int.reduceLE, Int.reduceAdd, Int.reduceSub, Int.reduceMul, Int.reduceNeg, Int.reduceMod, Int.reduceDiv, Int.reduceToNat, Nat.reduceAdd, Nat.reduceLeDiff, List.length_cons, List.length_nil, not_false_eq_true, not_true_eq_false, ne_eq, or_false, false_or, or_self, false_and, and_false, or_true, true_or, ite_self, Int.add_sub_cancel, Int.sub_add_cancel, b_lc1, b_lc2, b_lc3, b_lc4, b_lc5, up_eq, up_ei, up_n1, up_n2, W32i, W8i, W16i, W64i, if_ps, if_ng, and_tr, fil_n1, fil_in, fil_out, M46]
    rw [show n = S 12 9 by omega]
  | succ c ih =>
    intro n hn hp
    have a := h2 n hp (by omega)
    rw [L46_6]
    simp (disch := omega) only [bcd, true_and, and_true, and_self, if_true, if_false, ite_true, ite_false, reduceIte, Int.reduceEq, Int.reduceNe, Int.reduceLT, Int.reduceLE, Int.reduceAdd, Int.reduceSub, Int.reduceMul, Int.reduceNeg, Int.reduceMod, Int.reduceDiv, Int.reduceToNat, Nat.reduceAdd, Nat.reduceLeDiff, List.length_cons, List.length_nil, not_false_eq_true, not_true_eq_false, ne_eq, or_false, false_or, or_self, false_and, and_false, or_true, true_or, ite_self, Int.add_sub_cancel, Int.sub_add_cancel, b_lc1, b_lc2, b_lc3, b_lc4, b_lc5, up_eq, up_ei, up_n1, up_n2, W32i, W8i, W16i, W64i, if_ps, if_ng, and_tr, fil_n1, fil_in, fil_out, M46, x_amt S _ n _ _ hp (by omega) a.1 a.2, b_m1, W64add]
    have e : (n + 1).toNat = n.toNat + 1 := by omega
    have := ih (n + 1) (by omega) (by omega)
    rw [e, ztt, show ((n.toNat : Nat) : Int) = n by omega] at this
    rw [← this]
    by_cases b : S 55 n < 0 <;> simp (disch := omega) only [bcd, true_and, and_true, and_self, if_true, if_false, ite_true, ite_false, reduceIte, Int.reduceEq, Int.reduceNe, Int.reduceLT, Int.reduceLE, Int.reduceAdd, Int.reduceSub, Int.reduceMul, Int.reduceNeg, Int.reduceMod, Int.reduceDiv, Int.reduceToNat, Nat.reduceAdd, Nat.reduceLeDiff, List.length_cons, List.length_nil, not_false_eq_true, not_true_eq_false, ne_eq, or_false, false_or, or_self, false_and, and_false, or_true, true_or, ite_self, Int.add_sub_cancel, Int.sub_add_cancel, b_lc1, b_lc2, b_lc3, b_lc4, b_lc5, up_eq, up_ei, up_n1, up_n2, W32i, W8i, W16i, W64i, if_ps, if_ng, and_tr, fil_n1, fil_in, fil_out, b]
theorem x_tot (S : Sto) (Q : ZQ) (p nm : Int) (h : zxok S) : zCall Cd 46 7 [(12, 12), (0, p), (1, nm)] S Q = Q S (1, w64 (ztt (S 55) (zxa S p nm) (S 12 9).toNat)) := by
  simp (disch := omega) only [bcd, true_and, and_true, and_self, if_true, if_false, ite_true, ite_false, reduceIte, Int.reduceEq, Int.reduceNe, Int.reduceLT, Int.reduceLE, Int.reduceAdd, Int.reduceSub, Int.reduceMul, Int.reduceNeg, Int.reduceMod, Int.reduceDiv, Int.reduceToNat, Nat.reduceAdd, Nat.reduceLeDiff, List.length_cons, List.length_nil, not_false_eq_true, not_true_eq_false, ne_eq, or_false, false_or, or_self, false_and, and_false, or_true, true_or, ite_self, Int.add_sub_cancel, Int.sub_add_cancel, b_lc1, b_lc2, b_lc3, b_lc4, b_lc5, up_eq, up_ei, up_n1, up_n2, W32i, W8i, W16i, W64i, if_ps, if_ng, and_tr, fil_n1, fil_in, fil_out, M46]
  have := x_tot_l S Q p nm h (S 12 9).toNat 0 (by have := h.1; omega) (by omega)
  simpa [ztt, W64i] using this
/-! M -/
theorem m_amt_l (S : Sto) (Q : ZQ) (n p nm : Int) (h0 : 0 ≤ n) (h1 : n < 1024) (h2 : 0 ≤ S 123 n) (h3 : S 123 n ≤ 8) : ∀ (c : Nat) (k : Int), k + c = S 123 n → 0 ≤ k →
    zG Cd 271 (Cd 271 3) [(34, 34), (0, n), (0, p), (1, nm), (9, 0), (0, k)] [] S Q = Q S (1, zlk (S 124) (S 125) (S 126) p nm c (8 * n + k)) := by
  intro c
  induction c with
  | zero =>
    intro k hk hl
    rw [L271_3]
    simp (disch := omega) only [bcd, true_and, and_true, and_self, if_true, if_false, ite_true, ite_false, reduceIte, Int.reduceEq, Int.reduceNe, Int.reduceLT, Int.reduceLE, Int.reduceAdd, Int.reduceSub, Int.reduceMul, Int.reduceNeg, Int.reduceMod, Int.reduceDiv, Int.reduceToNat, Nat.reduceAdd, Nat.reduceLeDiff, List.length_cons, List.length_nil, not_false_eq_true, not_true_eq_false, ne_eq, or_false, false_or, or_self, false_and, and_false, or_true, true_or, ite_self, Int.add_sub_cancel, Int.sub_add_cancel, b_lc1, b_lc2, b_lc3, b_lc4, b_lc5, up_eq, up_ei, up_n1, up_n2, W32i, W8i, W16i, W64i, if_ps, if_ng, and_tr, fil_n1, fil_in, fil_out, M271]
    rfl
  | succ c ih =>
    intro k hk hl
    rw [L271_3]
    simp (disch := omega) only [bcd, true_and, and_true, and_self, if_true, if_false, ite_true, ite_false, reduceIte, Int.reduceEq, Int.reduceNe, Int.reduceLT, Int.reduceLE, Int.reduceAdd, Int.reduceSub, Int.reduceMul, Int.reduceNeg, Int.reduceMod, Int.reduceDiv, Int.reduceToNat, Nat.reduceAdd, Nat.reduceLeDiff, List.length_cons, List.length_nil, not_false_eq_true, not_true_eq_false, ne_eq, or_false, false_or, or_self, false_and, and_false, or_true, true_or, ite_self, Int.add_sub_cancel, Int.sub_add_cancel, b_lc1, b_lc2, b_lc3, b_lc4, b_lc5, up_eq, up_ei, up_n1, up_n2, W32i, W8i, W16i, W64i, if_ps, if_ng, and_tr, fil_n1, fil_in, fil_out, M271, b_lc1]
    rw [ih (k + 1) (by omega) (by omega), zlk, show 8 * n + (k + 1) = 8 * n + k + 1 by omega]
    by_cases a : S 124 (8 * n + k) = p <;> by_cases b : S 125 (8 * n + k) = nm <;> simp [a, b]
def zma (S : Sto) (p nm n : Int) : Int := zlk (S 124) (S 125) (S 126) p nm (S 123 n).toNat (8 * n)
theorem m_amt (S : Sto) (Q : ZQ) (n p nm : Int) (h0 : 0 ≤ n) (h1 : n < 1024) (h2 : 0 ≤ S 123 n) (h3 : S 123 n ≤ 8) :
    zCall Cd 271 6 [(34, 34), (0, n), (0, p), (1, nm)] S Q = Q S (1, zma S p nm n) := by
  simp (disch := omega) only [bcd, true_and, and_true, and_self, if_true, if_false, ite_true, ite_false, reduceIte, Int.reduceEq, Int.reduceNe, Int.reduceLT, Int.reduceLE, Int.reduceAdd, Int.reduceSub, Int.reduceMul, Int.reduceNeg, Int.reduceMod, Int.reduceDiv, Int.reduceToNat, Nat.reduceAdd, Nat.reduceLeDiff, List.length_cons, List.length_nil, not_false_eq_true, not_true_eq_false, ne_eq, or_false, false_or, or_self, false_and, and_false, or_true, true_or, ite_self, Int.add_sub_cancel, Int.sub_add_cancel, b_lc1, b_lc2, b_lc3, b_lc4, b_lc5, up_eq, up_ei, up_n1, up_n2, W32i, W8i, W16i, W64i, if_ps, if_ng, and_tr, fil_n1, fil_in, fil_out, M271]
  rw [m_amt_l S Q n p nm h0 h1 h2 h3 (S 123 n).toNat _ (by omega) (by omega)]
  simp [zma]
def zmok (S : Sto) : Prop := 0 ≤ S 34 11 ∧ S 34 11 ≤ 1024 ∧ ∀ n, 0 ≤ n → n < S 34 11 → 0 ≤ S 123 n ∧ S 123 n ≤ 8
theorem m_live (S : Sto) (Q : ZQ) (n : Int) (h : S 34 11 ≤ 1024) : zCall Cd 270 2 [(34, 34), (0, n)] S Q = Q S (0, if 0 ≤ n ∧ n < S 34 11 ∧ S 130 n < 0 then 1 else 0) := by
  by_cases a : 0 ≤ n ∧ n < S 34 11
  · by_cases b : S 130 n < 0 <;> simp (disch := omega) only [bcd, true_and, and_true, and_self, if_true, if_false, ite_true, ite_false, reduceIte, Int.reduceEq, Int.reduceNe, Int.reduceLT, Int.reduceLE, Int.reduceAdd, Int.reduceSub, Int.reduceMul, Int.reduceNeg, Int.reduceMod, Int.reduceDiv, Int.reduceToNat, Nat.reduceAdd, Nat.reduceLeDiff, List.length_cons, List.length_nil, not_false_eq_true, not_true_eq_false, ne_eq, or_false, false_or, or_self, false_and, and_false, or_true, true_or, ite_self, Int.add_sub_cancel, Int.sub_add_cancel, b_lc1, b_lc2, b_lc3, b_lc4, b_lc5, up_eq, up_ei, up_n1, up_n2, W32i, W8i, W16i, W64i, if_ps, if_ng, and_tr, fil_n1, fil_in, fil_out, M270, a, b]
  · by_cases b : 0 ≤ n <;> simp (disch := omega) only [bcd, true_and, and_true, and_self, if_true, if_false, ite_true, ite_false, reduceIte, Int.reduceEq, Int.reduceNe, Int.reduceLT, Int.reduceLE, Int.reduceAdd, Int.reduceSub, Int.reduceMul, Int.reduceNeg, Int.reduceMod, Int.reduceDiv, Int.reduceToNat, Nat.reduceAdd, Nat.reduceLeDiff, List.length_cons, List.length_nil, not_false_eq_true, not_true_eq_false, ne_eq, or_false, false_or, or_self, false_and, and_false, or_true, true_or, ite_self, Int.add_sub_cancel, Int.sub_add_cancel, b_lc1, b_lc2, b_lc3, b_lc4, b_lc5, up_eq, up_ei, up_n1, up_n2, W32i, W8i, W16i, W64i, if_ps, if_ng, and_tr, fil_n1, fil_in, fil_out, M270]
def zsum (f : Int → Int) : Nat → Int
  | 0 => 0
  | m + 1 => zsum f m + f m
theorem m_pot_l (S : Sto) (Q : ZQ) (h : 0 ≤ S 34 23) (h1 : S 34 23 < 4200) : ∀ (c : Nat) (n : Int), n + c = S 34 23 + 1 → 0 ≤ n →
    zG Cd 269 (Cd 269 4) [(34, 34), (1, w64 (zsum (S 131) n.toNat)), (9, 0), (0, n)] [] S Q = Q S (1, w64 (zsum (S 131) (S 34 23 + 1).toNat)) := by
  intro c
  induction c with
  | zero =>
    intro n hn hp
    rw [L269_4]
    simp (disch := omega) only [bcd, true_and, and_true, and_self, if_true, if_false, ite_true, ite_false, reduceIte, Int.reduceEq, Int.reduceNe, Int.reduceLT, Int.reduceLE, Int.reduceAdd, Int.reduceSub, Int.reduceMul, Int.reduceNeg, Int.reduceMod, Int.reduceDiv, Int.reduceToNat, Nat.reduceAdd, Nat.reduceLeDiff, List.length_cons, List.length_nil, not_false_eq_true, not_true_eq_false, ne_eq, or_false, false_or, or_self, false_and, and_false, or_true, true_or, ite_self, Int.add_sub_cancel, Int.sub_add_cancel, b_lc1, b_lc2, b_lc3, b_lc4, b_lc5, up_eq, up_ei, up_n1, up_n2, W32i, W8i, W16i, W64i, if_ps, if_ng, and_tr, fil_n1, fil_in, fil_out, M269]
    rw [show n = S 34 23 + 1 by omega]
  | succ c ih =>
    intro n hn hp
    rw [L269_4]
    simp (disch := omega) only [bcd, true_and, and_true, and_self, if_true, if_false, ite_true, ite_false, reduceIte, Int.reduceEq, Int.reduceNe, Int.reduceLT, Int.reduceLE, Int.reduceAdd, Int.reduceSub, Int.reduceMul, Int.reduceNeg, Int.reduceMod, Int.reduceDiv, Int.reduceToNat, Nat.reduceAdd, Nat.reduceLeDiff, List.length_cons, List.length_nil, not_false_eq_true, not_true_eq_false, ne_eq, or_false, false_or, or_self, false_and, and_false, or_true, true_or, ite_self, Int.add_sub_cancel, Int.sub_add_cancel, b_lc1, b_lc2, b_lc3, b_lc4, b_lc5, up_eq, up_ei, up_n1, up_n2, W32i, W8i, W16i, W64i, if_ps, if_ng, and_tr, fil_n1, fil_in, fil_out, M269, W64add]
    have e : (n + 1).toNat = n.toNat + 1 := by omega
    have := ih (n + 1) (by omega) (by omega)
    rw [e, zsum, show ((n.toNat : Nat) : Int) = n by omega] at this
    rw [← this]
theorem m_pot (S : Sto) (Q : ZQ) (h : 0 ≤ S 34 23) (h1 : S 34 23 < 4200) : zCall Cd 269 4 [(34, 34)] S Q = Q S (1, w64 (zsum (S 131) (S 34 23 + 1).toNat)) := by
  simp (disch := omega) only [bcd, true_and, and_true, and_self, if_true, if_false, ite_true, ite_false, reduceIte, Int.reduceEq, Int.reduceNe, Int.reduceLT, Int.reduceLE, Int.reduceAdd, Int.reduceSub, Int.reduceMul, Int.reduceNeg, Int.reduceMod, Int.reduceDiv, Int.reduceToNat, Nat.reduceAdd, Nat.reduceLeDiff, List.length_cons, List.length_nil, not_false_eq_true, not_true_eq_false, ne_eq, or_false, false_or, or_self, false_and, and_false, or_true, true_or, ite_self, Int.add_sub_cancel, Int.sub_add_cancel, b_lc1, b_lc2, b_lc3, b_lc4, b_lc5, up_eq, up_ei, up_n1, up_n2, W32i, W8i, W16i, W64i, if_ps, if_ng, and_tr, fil_n1, fil_in, fil_out, M269]
  have := m_pot_l S Q h h1 (S 34 23 + 1).toNat 0 (by omega) (by omega)
  simpa [zsum, W64i] using this
theorem m_tot_l (S : Sto) (Q : ZQ) (p nm z : Int) (h : zmok S) : ∀ (c : Nat) (n : Int), n + c = S 34 11 → 0 ≤ n →
    zG Cd 268 (Cd 268 23) [(34, 34), (0, p), (1, nm), (9, 0), (1, w64 (z + ztt (S 130) (zma S p nm) n.toNat)), (9, 0), (0, n)] [] S Q = Q S (1, w64 (z + ztt (S 130) (zma S p nm) (S 34 11).toNat)) := by
  obtain ⟨h0, h1, h2⟩ := h
  intro c
  induction c with
  | zero =>
    intro n hn hp
    rw [L268_23]
    simp (disch := omega) only [bcd, true_and, and_true, and_self, if_true, if_false, ite_true, ite_false, reduceIte, Int.reduceEq, Int.reduceNe, Int.reduceLT, Int.reduceLE, Int.reduceAdd, Int.reduceSub, Int.reduceMul, Int.reduceNeg, Int.reduceMod, Int.reduceDiv, Int.reduceToNat, Nat.reduceAdd, Nat.reduceLeDiff, List.length_cons, List.length_nil, not_false_eq_true, not_true_eq_false, ne_eq, or_false, false_or, or_self, false_and, and_false, or_true, true_or, ite_self, Int.add_sub_cancel, Int.sub_add_cancel, b_lc1, b_lc2, b_lc3, b_lc4, b_lc5, up_eq, up_ei, up_n1, up_n2, W32i, W8i, W16i, W64i, if_ps, if_ng, and_tr, fil_n1, fil_in, fil_out, M268]
    rw [show n = S 34 11 by omega]
  | succ c ih =>
    intro n hn hp
    have a := h2 n hp (by omega)
    rw [L268_23]
    simp (disch := omega) only [bcd, true_and, and_true, and_self, if_true, if_false, ite_true, ite_false, reduceIte, Int.reduceEq, Int.reduceNe, Int.reduceLT, Int.reduceLE, Int.reduceAdd, Int.reduceSub, Int.reduceMul, Int.reduceNeg, Int.reduceMod, Int.reduceDiv, Int.reduceToNat, Nat.reduceAdd, Nat.reduceLeDiff, List.length_cons, List.length_nil, not_false_eq_true, not_true_eq_false, ne_eq, or_false, false_or, or_self, false_and, and_false, or_true, true_or, ite_self, Int.add_sub_cancel, Int.sub_add_cancel, b_lc1, b_lc2, b_lc3, b_lc4, b_lc5, up_eq, up_ei, up_n1, up_n2, W32i, W8i, W16i, W64i, if_ps, if_ng, and_tr, fil_n1, fil_in, fil_out, M268, m_live S _ n h1, m_amt S _ n _ _ hp (by omega) a.1 a.2, b_m1, W64add]
    have e : (n + 1).toNat = n.toNat + 1 := by omega
    have := ih (n + 1) (by omega) (by omega)
    rw [e, ztt, show ((n.toNat : Nat) : Int) = n by omega] at this
    rw [← this]
    by_cases b : S 130 n < 0 <;> simp (disch := omega) only [bcd, true_and, and_true, and_self, if_true, if_false, ite_true, ite_false, reduceIte, Int.reduceEq, Int.reduceNe, Int.reduceLT, Int.reduceLE, Int.reduceAdd, Int.reduceSub, Int.reduceMul, Int.reduceNeg, Int.reduceMod, Int.reduceDiv, Int.reduceToNat, Nat.reduceAdd, Nat.reduceLeDiff, List.length_cons, List.length_nil, not_false_eq_true, not_true_eq_false, ne_eq, or_false, false_or, or_self, false_and, and_false, or_true, true_or, ite_self, Int.add_sub_cancel, Int.sub_add_cancel, b_lc1, b_lc2, b_lc3, b_lc4, b_lc5, up_eq, up_ei, up_n1, up_n2, W32i, W8i, W16i, W64i, if_ps, if_ng, and_tr, fil_n1, fil_in, fil_out, b, Int.add_assoc]
theorem m_tot (S : Sto) (Q : ZQ) (p nm : Int) (h : zmok S) (h2 : 0 ≤ S 34 23) (h1 : S 34 23 < 4200) : zCall Cd 268 7 [(34, 34), (0, p), (1, nm)] S Q = Q S (1, w64 ((if p = 0 ∧ nm = 0 then zsum (S 131) (S 34 23 + 1).toNat else 0) + ztt (S 130) (zma S p nm) (S 34 11).toNat)) := by
  have := m_tot_l S Q p nm (if p = 0 ∧ nm = 0 then zsum (S 131) (S 34 23 + 1).toNat else 0) h (S 34 11).toNat 0 (by have := h.1; omega) (by omega)
  rw [← this]
  by_cases a : p = 0
  · by_cases b : nm = 0
    · simp (disch := omega) only [bcd, true_and, and_true, and_self, if_true, if_false, ite_true, ite_false, reduceIte, Int.reduceEq, Int.reduceNe, Int.reduceLT, Int.reduceLE, Int.reduceAdd, Int.reduceSub, Int.reduceMul, Int.reduceNeg, Int.reduceMod, Int.reduceDiv, Int.reduceToNat, Nat.reduceAdd, Nat.reduceLeDiff, List.length_cons, List.length_nil, not_false_eq_true, not_true_eq_false, ne_eq, or_false, false_or, or_self, false_and, and_false, or_true, true_or, ite_self, Int.add_sub_cancel, Int.sub_add_cancel, b_lc1, b_lc2, b_lc3, b_lc4, b_lc5, up_eq, up_ei, up_n1, up_n2, W32i, W8i, W16i, W64i, if_ps, if_ng, and_tr, fil_n1, fil_in, fil_out, M268, m_pot S _ h2 h1, a, b, b_lc1]
      simp [ztt, W64i]
    · simp (disch := omega) only [bcd, true_and, and_true, and_self, if_true, if_false, ite_true, ite_false, reduceIte, Int.reduceEq, Int.reduceNe, Int.reduceLT, Int.reduceLE, Int.reduceAdd, Int.reduceSub, Int.reduceMul, Int.reduceNeg, Int.reduceMod, Int.reduceDiv, Int.reduceToNat, Nat.reduceAdd, Nat.reduceLeDiff, List.length_cons, List.length_nil, not_false_eq_true, not_true_eq_false, ne_eq, or_false, false_or, or_self, false_and, and_false, or_true, true_or, ite_self, Int.add_sub_cancel, Int.sub_add_cancel, b_lc1, b_lc2, b_lc3, b_lc4, b_lc5, up_eq, up_ei, up_n1, up_n2, W32i, W8i, W16i, W64i, if_ps, if_ng, and_tr, fil_n1, fil_in, fil_out, M268, a, b, b_lc1]
      simp [ztt, W64i]
  · simp (disch := omega) only [bcd, true_and, and_true, and_self, if_true, if_false, ite_true, ite_false, reduceIte, Int.reduceEq, Int.reduceNe, Int.reduceLT, Int.reduceLE, Int.reduceAdd, Int.reduceSub, Int.reduceMul, Int.reduceNeg, Int.reduceMod, Int.reduceDiv, Int.reduceToNat, Nat.reduceAdd, Nat.reduceLeDiff, List.length_cons, List.length_nil, not_false_eq_true, not_true_eq_false, ne_eq, or_false, false_or, or_self, false_and, and_false, or_true, true_or, ite_self, Int.add_sub_cancel, Int.sub_add_cancel, b_lc1, b_lc2, b_lc3, b_lc4, b_lc5, up_eq, up_ei, up_n1, up_n2, W32i, W8i, W16i, W64i, if_ps, if_ng, and_tr, fil_n1, fil_in, fil_out, M268, a, b_lc1]
    simp [ztt, W64i]
