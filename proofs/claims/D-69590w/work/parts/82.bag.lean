-- uses: 81 45
/-! X's bags -/
def gK (p m q w : Int) : Int := if p ≠ q then (if p < q then -1 else 1) else if zuns m < zuns w then -1 else if zuns m = zuns w then 0 else 1
theorem gK_pos (p m q w : Int) : 0 < gK p m q w ↔ zltK q w p m := by
  unfold gK zltK
  (repeat' split) <;> omega
theorem gK_neg (p m q w : Int) : gK p m q w < 0 ↔ zltK p m q w := by
  unfold gK zltK
  (repeat' split) <;> omega
theorem gK_0 {p m q w : Int} (h : zLong m) (g : zLong w) : gK p m q w = 0 ↔ q = p ∧ w = m := by
  unfold gK
  constructor
  · intro x
    (repeat' split at x) <;> first | omega | (rename_i a b c; exact ⟨by omega, (zuns_inj h g c).symm⟩)
  · rintro ⟨rfl, rfl⟩
    simp
theorem gK_b (p m q w : Int) : -1 ≤ gK p m q w ∧ gK p m q w ≤ 1 := by unfold gK; (repeat' split) <;> omega
theorem b_order {S : Sto} {r : Int} (hr : r % 512 = 31) (p m k : Int) (k0 : 0 ≤ k) (k1 : k < 160) (Q : ZQ) : zCall Cd 228 5 [(31, r), (0, p), (1, m), (0, k)] S Q = Q S (0, gK p m (S (r + 79) k) (S (r + 80) k)) := by
  unfold gK
  by_cases a : p = S (r + 79) k
  · simp (disch := omega) only [bcd, true_and, and_true, and_self, if_true, if_false, ite_true, ite_false, reduceIte, Int.reduceEq, Int.reduceNe, Int.reduceLT, Int.reduceLE, Int.reduceAdd, Int.reduceSub, Int.reduceMul, Int.reduceNeg, Int.reduceMod, Int.reduceDiv, Int.reduceToNat, Nat.reduceAdd, Nat.reduceLeDiff, List.length_cons, List.length_nil, not_false_eq_true, not_true_eq_false, ne_eq, or_false, false_or, or_self, false_and, and_false, or_true, true_or, ite_self, Int.add_sub_cancel, Int.sub_add_cancel, b_lc1, b_lc2, b_lc3, b_lc4, b_lc5, up_eq, up_ei, up_n1, up_n2, W32i, W8i, W16i, W64i, if_ps, if_ng, and_tr, fil_n1, fil_in, fil_out, le_tt, le_ff, lt_tt, lt_ff, eq_tt, eq_ff, M228, x_cmpU, a]
  · by_cases b : p < S (r + 79) k <;> simp (disch := omega) only [bcd, true_and, and_true, and_self, if_true, if_false, ite_true, ite_false, reduceIte, Int.reduceEq, Int.reduceNe, Int.reduceLT, Int.reduceLE, Int.reduceAdd, Int.reduceSub, Int.reduceMul, Int.reduceNeg, Int.reduceMod, Int.reduceDiv, Int.reduceToNat, Nat.reduceAdd, Nat.reduceLeDiff, List.length_cons, List.length_nil, not_false_eq_true, not_true_eq_false, ne_eq, or_false, false_or, or_self, false_and, and_false, or_true, true_or, ite_self, Int.add_sub_cancel, Int.sub_add_cancel, b_lc1, b_lc2, b_lc3, b_lc4, b_lc5, up_eq, up_ei, up_n1, up_n2, W32i, W8i, W16i, W64i, if_ps, if_ng, and_tr, fil_n1, fil_in, fil_out, le_tt, le_ff, lt_tt, lt_ff, eq_tt, eq_ff, M228, x_cmpU, a]
/-- a bag -/
def BG (S : Sto) (r n : Int) (g : Int → Int → Int) : Prop := (r % 512 = 31) ∧ (n ≤ 160) ∧ (S r 3 = n) ∧ (KS n (S (r + 79)) (S (r + 80))) ∧ (RP n (S (r + 79)) (S (r + 80)) (S (r + 81)) g) ∧ (∀ i, 0 ≤ i → i < n → S (r + 81) i ≠ 0)
theorem BG.mk1 {S : Sto} {r n : Int} {g : Int → Int → Int} (hr : r % 512 = 31) (n1 : n ≤ 160) (sz : S r 3 = n) (ks : KS n (S (r + 79)) (S (r + 80))) (rp : RP n (S (r + 79)) (S (r + 80)) (S (r + 81)) g) (nz : ∀ i, 0 ≤ i → i < n → S (r + 81) i ≠ 0) : BG S r n g := by unfold BG; exact ⟨hr, n1, sz, ks, rp, nz⟩
theorem BG.hr {S : Sto} {r n : Int} {g : Int → Int → Int} (h : BG S r n g) : r % 512 = 31 := by unfold BG at h; exact h.1
theorem BG.n1 {S : Sto} {r n : Int} {g : Int → Int → Int} (h : BG S r n g) : n ≤ 160 := by unfold BG at h; exact h.2.1
theorem BG.sz {S : Sto} {r n : Int} {g : Int → Int → Int} (h : BG S r n g) : S r 3 = n := by unfold BG at h; exact h.2.2.1
theorem BG.ks {S : Sto} {r n : Int} {g : Int → Int → Int} (h : BG S r n g) : KS n (S (r + 79)) (S (r + 80)) := by unfold BG at h; exact h.2.2.2.1
theorem BG.rp {S : Sto} {r n : Int} {g : Int → Int → Int} (h : BG S r n g) : RP n (S (r + 79)) (S (r + 80)) (S (r + 81)) g := by unfold BG at h; exact h.2.2.2.2.1
theorem BG.nz {S : Sto} {r n : Int} {g : Int → Int → Int} (h : BG S r n g) : ∀ i, 0 ≤ i → i < n → S (r + 81) i ≠ 0 := by unfold BG at h; exact h.2.2.2.2.2
theorem ziushr_f : ∀ b : Fin 512, ziushr (b.val : Int) 1 = (b.val : Int) / 2 := by decide +kernel
theorem ziushr_1 {x : Int} (h : 0 ≤ x) (g : x < 512) : ziushr x 1 = x / 2 := by
  have := ziushr_f ⟨x.toNat, by omega⟩
  simpa [Int.toNat_of_nonneg h] using this
theorem zlxor_n {a b : Int} (ha : zLong a) (hb : zLong b) : zlxor a b < 0 ↔ ¬ (a < 0 ↔ b < 0) := by
  have e1 := i64_rng ha.1 ha.2
  have e2 := i64_rng hb.1 hb.2
  have f1 : (Int64.ofInt a).toBitVec.msb = decide (a < 0) := by rw [BitVec.msb_eq_toInt]; show decide ((Int64.ofInt a).toInt < 0) = _; rw [e1]
  have f2 : (Int64.ofInt b).toBitVec.msb = decide (b < 0) := by rw [BitVec.msb_eq_toInt]; show decide ((Int64.ofInt b).toInt < 0) = _; rw [e2]
  have f3 : ((Int64.ofInt a) ^^^ (Int64.ofInt b)).toBitVec.msb = decide (zlxor a b < 0) := by rw [BitVec.msb_eq_toInt]; rfl
  rw [Int64.toBitVec_xor, BitVec.msb_xor, f1, f2] at f3
  by_cases p : a < 0 <;> by_cases q : b < 0 <;> simp_all <;> omega
theorem zland_n {a b : Int} (ha : zLong a) (hb : zLong b) : zland a b < 0 ↔ a < 0 ∧ b < 0 := by
  have e1 := i64_rng ha.1 ha.2
  have e2 := i64_rng hb.1 hb.2
  have f1 : (Int64.ofInt a).toBitVec.msb = decide (a < 0) := by rw [BitVec.msb_eq_toInt]; show decide ((Int64.ofInt a).toInt < 0) = _; rw [e1]
  have f2 : (Int64.ofInt b).toBitVec.msb = decide (b < 0) := by rw [BitVec.msb_eq_toInt]; show decide ((Int64.ofInt b).toInt < 0) = _; rw [e2]
  have f3 : ((Int64.ofInt a) &&& (Int64.ofInt b)).toBitVec.msb = decide (zland a b < 0) := by rw [BitVec.msb_eq_toInt]; rfl
  rw [Int64.toBitVec_and, BitVec.msb_and, f1, f2] at f3
  by_cases p : a < 0 <;> by_cases q : b < 0 <;> simp_all <;> omega
theorem zlxor_l (a b : Int) : zLong (zlxor a b) := by
  unfold zlxor zLong
  have h1 := Int64.le_toInt (Int64.ofInt a ^^^ Int64.ofInt b)
  have h2 := Int64.toInt_lt (Int64.ofInt a ^^^ Int64.ofInt b)
  omega
theorem w64_l (a : Int) : zLong (w64 a) := by
  unfold w64 zLong
  rw [Int.bmod_def]
  split <;> omega
theorem zovf {a b : Int} (ha : zLong a) (hb : zLong b) : (zland (zlxor a (w64 (a + b))) (zlxor b (w64 (a + b))) < 0) = ¬ zLong (a + b) := by
  have c := w64_l (a + b)
  rw [zland_n (zlxor_l _ _) (zlxor_l _ _), zlxor_n ha c, zlxor_n hb c]
  unfold zLong at ha hb ⊢
  have e : w64 (a + b) = if a + b < -9223372036854775808 then a + b + 18446744073709551616 else if a + b < 9223372036854775808 then a + b else a + b - 18446744073709551616 := by
    unfold w64
    rw [Int.bmod_def]
    (repeat' split) <;> omega
  rw [e]
  apply propext
  (repeat' split) <;> omega
theorem b_over (S : Sto) (Q : ZQ) (a b : Int) (ha : zLong a) (hb : zLong b) (h : zLong (a + b)) : zCall Cd 219 6 [(1, a), (1, b)] S Q = Q S (0, 0) := by
  have e := zovf ha hb
  have d : ¬ zland (zlxor a (w64 (a + b))) (zlxor b (w64 (a + b))) < 0 := by rw [e]; exact fun x => x h
  simp (disch := omega) only [bcd, true_and, and_true, and_self, if_true, if_false, ite_true, ite_false, reduceIte, Int.reduceEq, Int.reduceNe, Int.reduceLT, Int.reduceLE, Int.reduceAdd, Int.reduceSub, Int.reduceMul, Int.reduceNeg, Int.reduceMod, Int.reduceDiv, Int.reduceToNat, Nat.reduceAdd, Nat.reduceLeDiff, List.length_cons, List.length_nil, not_false_eq_true, not_true_eq_false, ne_eq, or_false, false_or, or_self, false_and, and_false, or_true, true_or, ite_self, Int.add_sub_cancel, Int.sub_add_cancel, b_lc1, b_lc2, b_lc3, b_lc4, b_lc5, up_eq, up_ei, up_n1, up_n2, W32i, W8i, W16i, W64i, if_ps, if_ng, and_tr, fil_n1, fil_in, fil_out, le_tt, le_ff, lt_tt, lt_ff, eq_tt, eq_ff, M219]
theorem b_over1 (S : Sto) (Q : ZQ) (a b : Int) (ha : zLong a) (hb : zLong b) (h : ¬ zLong (a + b)) : zCall Cd 219 6 [(1, a), (1, b)] S Q = Q S (0, 1) := by
  have e := zovf ha hb
  have d : zland (zlxor a (w64 (a + b))) (zlxor b (w64 (a + b))) < 0 := by rw [e]; exact h
  simp (disch := omega) only [bcd, true_and, and_true, and_self, if_true, if_false, ite_true, ite_false, reduceIte, Int.reduceEq, Int.reduceNe, Int.reduceLT, Int.reduceLE, Int.reduceAdd, Int.reduceSub, Int.reduceMul, Int.reduceNeg, Int.reduceMod, Int.reduceDiv, Int.reduceToNat, Nat.reduceAdd, Nat.reduceLeDiff, List.length_cons, List.length_nil, not_false_eq_true, not_true_eq_false, ne_eq, or_false, false_or, or_self, false_and, and_false, or_true, true_or, ite_self, Int.add_sub_cancel, Int.sub_add_cancel, b_lc1, b_lc2, b_lc3, b_lc4, b_lc5, up_eq, up_ei, up_n1, up_n2, W32i, W8i, W16i, W64i, if_ps, if_ng, and_tr, fil_n1, fil_in, fil_out, le_tt, le_ff, lt_tt, lt_ff, eq_tt, eq_ff, M219]
theorem b_search {S : Sto} {r n : Int} {g : Int → Int → Int} (h : BG S r n g) (p m : Int) (hm : zLong m) : ∃ k, zR 227 7 [(31, r), (0, p), (1, m)] S S (0, k) ∧ KP n (S (r + 79)) (S (r + 80)) p m k := by
  have n1 := h.n1
  have hr := h.hr
  have sz := h.sz
  have n0 := h.ks.n0
  have lp : ∀ (c : Nat) (lo hi : Int) (y : AV), hi - lo ≤ c → 0 ≤ lo → lo ≤ hi → hi ≤ n → (∀ i, 0 ≤ i → i < lo → zltK (S (r + 79) i) (S (r + 80) i) p m) → (∀ i, hi ≤ i → i < n → ¬ zltK (S (r + 79) i) (S (r + 80) i) p m) → ∃ k, (∀ Q : ZQ, zG Cd 227 (Cd 227 9) [(31, r), (0, p), (1, m), (9, 0), (0, lo), (0, hi), y] [] S Q = Q S (0, k)) ∧ KP n (S (r + 79)) (S (r + 80)) p m k := by
    intro c
    induction c with
    | zero =>
      intro lo hi y a b c d e f
      refine ⟨lo, fun Q => ?_, ?_⟩
      · rw [L227_9]
        simp (disch := omega) only [bcd, true_and, and_true, and_self, if_true, if_false, ite_true, ite_false, reduceIte, Int.reduceEq, Int.reduceNe, Int.reduceLT, Int.reduceLE, Int.reduceAdd, Int.reduceSub, Int.reduceMul, Int.reduceNeg, Int.reduceMod, Int.reduceDiv, Int.reduceToNat, Nat.reduceAdd, Nat.reduceLeDiff, List.length_cons, List.length_nil, not_false_eq_true, not_true_eq_false, ne_eq, or_false, false_or, or_self, false_and, and_false, or_true, true_or, ite_self, Int.add_sub_cancel, Int.sub_add_cancel, b_lc1, b_lc2, b_lc3, b_lc4, b_lc5, up_eq, up_ei, up_n1, up_n2, W32i, W8i, W16i, W64i, if_ps, if_ng, and_tr, fil_n1, fil_in, fil_out, le_tt, le_ff, lt_tt, lt_ff, eq_tt, eq_ff, M227]
      · apply KP.mk1
        case k0 => exact b
        case k1 => omega
        case lo => exact e
        case hi => intro i x y; exact f i (by omega) y
    | succ c ih =>
      intro lo hi y a b cc d e f
      by_cases q : lo < hi
      case neg =>
        refine ⟨lo, fun Q => ?_, ?_⟩
        · rw [L227_9]
          simp (disch := omega) only [bcd, true_and, and_true, and_self, if_true, if_false, ite_true, ite_false, reduceIte, Int.reduceEq, Int.reduceNe, Int.reduceLT, Int.reduceLE, Int.reduceAdd, Int.reduceSub, Int.reduceMul, Int.reduceNeg, Int.reduceMod, Int.reduceDiv, Int.reduceToNat, Nat.reduceAdd, Nat.reduceLeDiff, List.length_cons, List.length_nil, not_false_eq_true, not_true_eq_false, ne_eq, or_false, false_or, or_self, false_and, and_false, or_true, true_or, ite_self, Int.add_sub_cancel, Int.sub_add_cancel, b_lc1, b_lc2, b_lc3, b_lc4, b_lc5, up_eq, up_ei, up_n1, up_n2, W32i, W8i, W16i, W64i, if_ps, if_ng, and_tr, fil_n1, fil_in, fil_out, le_tt, le_ff, lt_tt, lt_ff, eq_tt, eq_ff, M227]
        · apply KP.mk1
          case k0 => exact b
          case k1 => omega
          case lo => exact e
          case hi => intro i x y; exact f i (by omega) y
      have od := fun k k0 k1 Q => b_order (S := S) hr p m k k0 k1 Q
      have sh : ziushr (lo + hi) 1 = (lo + hi) / 2 := ziushr_1 (by omega) (by omega)
      by_cases o : 0 < gK p m (S (r + 79) ((lo + hi) / 2)) (S (r + 80) ((lo + hi) / 2))
      · have z := (gK_pos _ _ _ _).mp o
        obtain ⟨k, R, K⟩ := ih ((lo + hi) / 2 + 1) hi (0, (lo + hi) / 2) (by omega) (by omega) (by omega) d (fun i x y => by
          by_cases w : i = (lo + hi) / 2
          · rw [w]; exact z
          · exact zltK_tr (h.ks.inc i ((lo + hi) / 2) x (by omega) (by omega)) z) f
        refine ⟨k, fun Q => ?_, K⟩
        have R := R Q
        rw [← R]
        conv => lhs; rw [L227_9]
        simp (disch := omega) only [bcd, true_and, and_true, and_self, if_true, if_false, ite_true, ite_false, reduceIte, Int.reduceEq, Int.reduceNe, Int.reduceLT, Int.reduceLE, Int.reduceAdd, Int.reduceSub, Int.reduceMul, Int.reduceNeg, Int.reduceMod, Int.reduceDiv, Int.reduceToNat, Nat.reduceAdd, Nat.reduceLeDiff, List.length_cons, List.length_nil, not_false_eq_true, not_true_eq_false, ne_eq, or_false, false_or, or_self, false_and, and_false, or_true, true_or, ite_self, Int.add_sub_cancel, Int.sub_add_cancel, b_lc1, b_lc2, b_lc3, b_lc4, b_lc5, up_eq, up_ei, up_n1, up_n2, W32i, W8i, W16i, W64i, if_ps, if_ng, and_tr, fil_n1, fil_in, fil_out, le_tt, le_ff, lt_tt, lt_ff, eq_tt, eq_ff, M227, od, sh]
      · have z := fun x => o ((gK_pos p m (S (r + 79) ((lo + hi) / 2)) (S (r + 80) ((lo + hi) / 2))).mpr x)
        obtain ⟨k, R, K⟩ := ih lo ((lo + hi) / 2) (0, (lo + hi) / 2) (by omega) (by omega) (by omega) (by omega) e (fun i x y w => by
          by_cases v : i = (lo + hi) / 2
          · rw [v] at w; exact z w
          · exact z (zltK_tr (h.ks.inc ((lo + hi) / 2) i (by omega) (by omega) y) w))
        refine ⟨k, fun Q => ?_, K⟩
        have R := R Q
        rw [← R]
        conv => lhs; rw [L227_9]
        simp (disch := omega) only [bcd, true_and, and_true, and_self, if_true, if_false, ite_true, ite_false, reduceIte, Int.reduceEq, Int.reduceNe, Int.reduceLT, Int.reduceLE, Int.reduceAdd, Int.reduceSub, Int.reduceMul, Int.reduceNeg, Int.reduceMod, Int.reduceDiv, Int.reduceToNat, Nat.reduceAdd, Nat.reduceLeDiff, List.length_cons, List.length_nil, not_false_eq_true, not_true_eq_false, ne_eq, or_false, false_or, or_self, false_and, and_false, or_true, true_or, ite_self, Int.add_sub_cancel, Int.sub_add_cancel, b_lc1, b_lc2, b_lc3, b_lc4, b_lc5, up_eq, up_ei, up_n1, up_n2, W32i, W8i, W16i, W64i, if_ps, if_ng, and_tr, fil_n1, fil_in, fil_out, le_tt, le_ff, lt_tt, lt_ff, eq_tt, eq_ff, M227, od, sh]
  obtain ⟨k, R, K⟩ := lp n.toNat 0 n (9, 0) (by omega) (by omega) n0 (by omega) (fun i a b => by omega) (fun i a b => by omega)
  refine ⟨k, fun Q => ?_, K⟩
  rw [← R Q]
  simp (disch := omega) only [bcd, true_and, and_true, and_self, if_true, if_false, ite_true, ite_false, reduceIte, Int.reduceEq, Int.reduceNe, Int.reduceLT, Int.reduceLE, Int.reduceAdd, Int.reduceSub, Int.reduceMul, Int.reduceNeg, Int.reduceMod, Int.reduceDiv, Int.reduceToNat, Nat.reduceAdd, Nat.reduceLeDiff, List.length_cons, List.length_nil, not_false_eq_true, not_true_eq_false, ne_eq, or_false, false_or, or_self, false_and, and_false, or_true, true_or, ite_self, Int.add_sub_cancel, Int.sub_add_cancel, b_lc1, b_lc2, b_lc3, b_lc4, b_lc5, up_eq, up_ei, up_n1, up_n2, W32i, W8i, W16i, W64i, if_ps, if_ng, and_tr, fil_n1, fil_in, fil_out, le_tt, le_ff, lt_tt, lt_ff, eq_tt, eq_ff, M227, sz]
