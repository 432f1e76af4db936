/-! small facts for the law's proof -/
theorem bcd : type_of% (bc (Cd)) := bc (Cd)
theorem up_eq (S : Sto) (a i v : Int) : up S a i v a i = v := by simp [up]
theorem up_ei (S : Sto) (a i v j : Int) (h : j = i) : up S a i v a j = v := by simp [up, h]
theorem up_n1 (S : Sto) (a i v b j : Int) (h : b ≠ a) : up S a i v b j = S b j := by simp [up, h]
theorem up_n2 (S : Sto) (a i v b j : Int) (h : j ≠ i) : up S a i v b j = S b j := by simp [up, h]
theorem up_fn (S : Sto) (a i v b : Int) (h : b ≠ a) : up S a i v b = S b := by funext j; simp [up, h]
theorem W32i {x : Int} (h1 : -2147483648 ≤ x) (h2 : x < 2147483648) : w32 x = x := by unfold w32; rw [Int.bmod_def]; split <;> omega
theorem W8i {x : Int} (h1 : -128 ≤ x) (h2 : x < 128) : w8 x = x := by unfold w8; rw [Int.bmod_def]; split <;> omega
theorem W16i {x : Int} (h1 : -32768 ≤ x) (h2 : x < 32768) : w16 x = x := by unfold w16; rw [Int.bmod_def]; split <;> omega
theorem W64i {x : Int} (h1 : -9223372036854775808 ≤ x) (h2 : x < 9223372036854775808) : w64 x = x := by unfold w64; rw [Int.bmod_def]; split <;> omega
/-- a stretch of an array set anew -/
def fil (S : Sto) (a lo hi : Int) (g : Int → Int) : Sto := fun b j => if b = a ∧ lo ≤ j ∧ j < hi then g j else S b j
theorem fil_n1 (S : Sto) (a lo hi : Int) (g : Int → Int) (b j : Int) (h : b ≠ a) : fil S a lo hi g b j = S b j := by simp [fil, h]
theorem fil_fn (S : Sto) (a lo hi : Int) (g : Int → Int) (b : Int) (h : b ≠ a) : fil S a lo hi g b = S b := by funext j; simp [fil, h]
theorem fil_in (S : Sto) (a lo hi : Int) (g : Int → Int) (j : Int) (h1 : lo ≤ j) (h2 : j < hi) : fil S a lo hi g a j = g j := by simp [fil, h1, h2]
theorem fil_out (S : Sto) (a lo hi : Int) (g : Int → Int) (j : Int) (h : j < lo ∨ hi ≤ j) : fil S a lo hi g a j = S a j := by
  unfold fil; rw [if_neg]; omega
theorem if_ps {c : Prop} {d : Decidable c} {α : Sort _} {x y : α} (h : c) : @ite α c d x y = x := if_pos h
theorem if_ng {c : Prop} {d : Decidable c} {α : Sort _} {x y : α} (h : ¬ c) : @ite α c d x y = y := if_neg h
theorem and_tr {p q : Prop} (h : p) : (p ∧ q) = q := propext ⟨fun x => x.2, fun x => ⟨h, x⟩⟩
theorem up_up (S : Sto) (a i v w : Int) : up (up S a i v) a i w = up S a i w := by funext b j; simp only [up]; split <;> simp_all
theorem up_self (S : Sto) (a i v : Int) (h : S a i = v) : up S a i v = S := by funext b j; simp only [up]; split <;> simp_all
theorem up_cm (S : Sto) (a i v b j w : Int) (h : a ≠ b) : up (up S a i v) b j w = up (up S b j w) a i v := by
  funext c k; simp only [up]; (repeat' split) <;> first | rfl | omega
theorem fil_up (S : Sto) (a i v b lo hi : Int) (g : Int → Int) (h : b ≠ a) : fil (up S a i v) b lo hi g = up (fil S b lo hi g) a i v := by
  funext c k; simp only [up, fil]; (repeat' split) <;> first | rfl | omega
theorem fil_cons (S : Sto) (a lo lo' hi x : Int) (g : Int → Int) (h : lo < hi) (h' : lo' = lo + 1) (hx : g lo = x) : fil (up S a lo x) a lo' hi g = fil S a lo hi g := by
  subst h' hx
  funext c k; simp only [up, fil]; (repeat' split) <;> first | rfl | omega | (rename_i h1 h2; rw [h1.2]) | (rename_i h1 h2 h3; rw [h2.2])
theorem fil_snoc (S : Sto) (a lo hi x : Int) (g : Int → Int) (h : lo ≤ hi) (hx : g hi = x) : up (fil S a lo hi g) a hi x = fil S a lo (hi + 1) g := by
  subst hx
  funext c k; simp only [up, fil]; (repeat' split) <;> first | rfl | omega | (rename_i h1 h2; rw [h1.2])
theorem fil_nil (S : Sto) (a lo hi : Int) (g : Int → Int) (h : hi ≤ lo) : fil S a lo hi g = S := by
  funext c k; simp only [fil]; split <;> first | rfl | omega
theorem fil_cg (S : Sto) (a lo hi : Int) (g g' : Int → Int) (h : ∀ j, lo ≤ j → j < hi → g j = g' j) : fil S a lo hi g = fil S a lo hi g' := by
  funext c k; simp only [fil]; split
  · rename_i q; exact h k q.2.1 q.2.2
  · rfl
/-! the plain ones of Math -/
theorem z_imin (S : Sto) (Q : ZQ) (a b : Int) : zCall Cd 256 2 [(0, a), (0, b)] S Q = Q S (0, if a ≤ b then a else b) := by
  by_cases h : a ≤ b <;> simp (disch := omega) only [bcd, true_and, and_true, and_self, if_true, if_false, ite_true, ite_false, reduceIte, Int.reduceEq, Int.reduceNe, Int.reduceLT, Int.reduceLE, Int.reduceAdd, Int.reduceSub, Int.reduceMul, Int.reduceNeg, Int.reduceMod, Int.reduceDiv, Int.reduceToNat, Nat.reduceAdd, Nat.reduceLeDiff, List.length_cons, List.length_nil, not_false_eq_true, not_true_eq_false, ne_eq, or_false, false_or, or_self, false_and, and_false, or_true, true_or, ite_self, Int.add_sub_cancel, Int.sub_add_cancel, b_lc1, b_lc2, b_lc3, b_lc4, b_lc5, up_eq, up_ei, up_n1, up_n2, W32i, W8i, W16i, W64i, if_ps, if_ng, and_tr, fil_n1, fil_in, fil_out, M256]
theorem z_imax (S : Sto) (Q : ZQ) (a b : Int) : zCall Cd 257 2 [(0, a), (0, b)] S Q = Q S (0, if b ≤ a then a else b) := by
  by_cases h : b ≤ a <;> simp (disch := omega) only [bcd, true_and, and_true, and_self, if_true, if_false, ite_true, ite_false, reduceIte, Int.reduceEq, Int.reduceNe, Int.reduceLT, Int.reduceLE, Int.reduceAdd, Int.reduceSub, Int.reduceMul, Int.reduceNeg, Int.reduceMod, Int.reduceDiv, Int.reduceToNat, Nat.reduceAdd, Nat.reduceLeDiff, List.length_cons, List.length_nil, not_false_eq_true, not_true_eq_false, ne_eq, or_false, false_or, or_self, false_and, and_false, or_true, true_or, ite_self, Int.add_sub_cancel, Int.sub_add_cancel, b_lc1, b_lc2, b_lc3, b_lc4, b_lc5, up_eq, up_ei, up_n1, up_n2, W32i, W8i, W16i, W64i, if_ps, if_ng, and_tr, fil_n1, fil_in, fil_out, M257]
theorem z_lmax (S : Sto) (Q : ZQ) (a b : Int) : zCall Cd 261 4 [(1, a), (1, b)] S Q = Q S (1, if b ≤ a then a else b) := by
  by_cases h : b ≤ a <;> simp (disch := omega) only [bcd, true_and, and_true, and_self, if_true, if_false, ite_true, ite_false, reduceIte, Int.reduceEq, Int.reduceNe, Int.reduceLT, Int.reduceLE, Int.reduceAdd, Int.reduceSub, Int.reduceMul, Int.reduceNeg, Int.reduceMod, Int.reduceDiv, Int.reduceToNat, Nat.reduceAdd, Nat.reduceLeDiff, List.length_cons, List.length_nil, not_false_eq_true, not_true_eq_false, ne_eq, or_false, false_or, or_self, false_and, and_false, or_true, true_or, ite_self, Int.add_sub_cancel, Int.sub_add_cancel, b_lc1, b_lc2, b_lc3, b_lc4, b_lc5, up_eq, up_ei, up_n1, up_n2, W32i, W8i, W16i, W64i, if_ps, if_ng, and_tr, fil_n1, fil_in, fil_out, M261, b_lc1, b_lc2, b_lc3, b_lc4, b_lc5]
theorem z_lmin (S : Sto) (Q : ZQ) (a b : Int) : zCall Cd 262 4 [(1, a), (1, b)] S Q = Q S (1, if a ≤ b then a else b) := by
  by_cases h : a ≤ b <;> simp (disch := omega) only [bcd, true_and, and_true, and_self, if_true, if_false, ite_true, ite_false, reduceIte, Int.reduceEq, Int.reduceNe, Int.reduceLT, Int.reduceLE, Int.reduceAdd, Int.reduceSub, Int.reduceMul, Int.reduceNeg, Int.reduceMod, Int.reduceDiv, Int.reduceToNat, Nat.reduceAdd, Nat.reduceLeDiff, List.length_cons, List.length_nil, not_false_eq_true, not_true_eq_false, ne_eq, or_false, false_or, or_self, false_and, and_false, or_true, true_or, ite_self, Int.add_sub_cancel, Int.sub_add_cancel, b_lc1, b_lc2, b_lc3, b_lc4, b_lc5, up_eq, up_ei, up_n1, up_n2, W32i, W8i, W16i, W64i, if_ps, if_ng, and_tr, fil_n1, fil_in, fil_out, M262, b_lc1, b_lc2, b_lc3, b_lc4, b_lc5]
theorem up_cm2 (S : Sto) (a i v j w : Int) (h : i ≠ j) : up (up S a i v) a j w = up (up S a j w) a i v := by
  funext c k; simp only [up]; (repeat' split) <;> first | rfl | omega
theorem up_xx (S : Sto) (a i v b j w v' w' : Int) (h : a ≠ b ∨ i ≠ j) : up (up (up (up S a i v) b j w) a i v') b j w' = up (up S a i v') b j w' := by
  funext c k; simp only [up]; (repeat' split) <;> first | rfl | omega
