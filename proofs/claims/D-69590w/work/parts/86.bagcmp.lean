-- uses: 85
theorem PO_0 {n n' : Int} {P N P' N' : Int → Int} (h : 0 ≤ n) (h' : 0 ≤ n') : PO n n' P N P' N' 0 0 := by
  apply PO.mk1
  case i0 => omega
  case j0 => omega
  case ab => intros; omega
  case ba => intros; omega
theorem PA_st (S : Sto) (a b p m x y i j : Int) (h : S 32 0 = a) (h' : S 32 1 = b) : PA (pst S p m x y i j) a b i j := by
  unfold pst
  apply PA.mk1 <;> simp (disch := omega) only [true_and, and_true, and_self, if_true, if_false, ite_true, ite_false, reduceIte, Int.reduceEq, Int.reduceNe, Int.reduceLT, Int.reduceLE, Int.reduceAdd, Int.reduceSub, Int.reduceMul, Int.reduceNeg, Int.reduceMod, Int.reduceDiv, Int.reduceToNat, Nat.reduceAdd, Nat.reduceLeDiff, List.length_cons, List.length_nil, not_false_eq_true, not_true_eq_false, ne_eq, or_false, false_or, or_self, false_and, and_false, or_true, true_or, ite_self, Int.add_sub_cancel, Int.sub_add_cancel, b_lc1, b_lc2, b_lc3, b_lc4, b_lc5, up_eq, up_ei, up_n1, up_n2, W32i, W8i, W16i, W64i, if_ps, if_ng, and_tr, fil_n1, fil_in, fil_out, h, h']
/-- whether two bags hold the same -/
theorem b_cmp {S : Sto} {k l a b n n' : Int} {g g' : Int → Int → Int} (k0 : 0 ≤ k ∧ k < 8) (l0 : 0 ≤ l ∧ l < 8) (hk : S 109 k = a) (hl : S 109 l = b) (h : BG S a n g) (h' : BG S b n' g') : ∃ S' v, zR 222 5 [(30, 30), (0, k), (0, l)] S S' (0, v) ∧ (v = 0 ↔ ∀ p m, g p m = g' p m) ∧ ∀ c, c ≠ 32 → S' c = S c := by
  have hr := h.hr
  have hr' := h'.hr
  have lp : ∀ (c : Nat) (T : Sto) (i j u v : Int), (∀ c, c ≠ 32 → T c = S c) → PA T a b i j → PO n n' (S (a + 79)) (S (a + 80)) (S (b + 79)) (S (b + 80)) i j → n + n' - i - j ≤ c → (u = 0 ∨ u = 1) → (v = 0 ∨ v = 1) → ∃ S' w, (∀ Q : ZQ, zG Cd 222 (Cd 222 22) [(30, 30), (0, k), (0, l), (0, u), (0, v)] [] T Q = Q S' (0, w)) ∧ (w = 0 ↔ u = 0 ∧ v = 0 ∧ (∀ x, i ≤ x → x < n → g (S (a + 79) x) (S (a + 80) x) = g' (S (a + 79) x) (S (a + 80) x)) ∧ (∀ x, j ≤ x → x < n' → g (S (b + 79) x) (S (b + 80) x) = g' (S (b + 79) x) (S (b + 80) x))) ∧ ∀ c, c ≠ 32 → S' c = S c := by
    intro c
    induction c with
    | zero =>
      intro T i j u v fT pa po hc hu hv
      have i0 := po.i0
      have j0 := po.j0
      have hT := h.pf (S' := T) 
      have bT : BG T a n g := by
        have e0 := fT a (by omega)
        have e1 := fT (a + 79) (by omega)
        have e2 := fT (a + 80) (by omega)
        have e3 := fT (a + 81) (by omega)
        obtain ⟨h_hr, h_n1, h_sz, h_ks, h_rp, h_nz⟩ := h
        apply BG.mk1 <;> (try rw [e0]) <;> (try rw [e1]) <;> (try rw [e2]) <;> (try rw [e3]) <;> assumption
      have bT' : BG T b n' g' := by
        have e0 := fT b (by omega)
        have e1 := fT (b + 79) (by omega)
        have e2 := fT (b + 80) (by omega)
        have e3 := fT (b + 81) (by omega)
        obtain ⟨h_hr, h_n1, h_sz, h_ks, h_rp, h_nz⟩ := h'
        apply BG.mk1 <;> (try rw [e0]) <;> (try rw [e1]) <;> (try rw [e2]) <;> (try rw [e3]) <;> assumption
      have ei : i = n := by omega
      have ej : j = n' := by omega
      subst ei ej
      have nx := fun Q => p_next0 bT bT' pa Q
      refine ⟨T, if u = 0 then (if v = 0 then 0 else 1) else (if v = 0 then 2 else 3), fun Q => ?_, ?_, fT⟩
      · rw [L222_22]
        rcases hu with rfl | rfl <;> rcases hv with rfl | rfl <;> simp (disch := omega) only [bcd, true_and, and_true, and_self, if_true, if_false, ite_true, ite_false, reduceIte, Int.reduceEq, Int.reduceNe, Int.reduceLT, Int.reduceLE, Int.reduceAdd, Int.reduceSub, Int.reduceMul, Int.reduceNeg, Int.reduceMod, Int.reduceDiv, Int.reduceToNat, Nat.reduceAdd, Nat.reduceLeDiff, List.length_cons, List.length_nil, not_false_eq_true, not_true_eq_false, ne_eq, or_false, false_or, or_self, false_and, and_false, or_true, true_or, ite_self, Int.add_sub_cancel, Int.sub_add_cancel, b_lc1, b_lc2, b_lc3, b_lc4, b_lc5, up_eq, up_ei, up_n1, up_n2, W32i, W8i, W16i, W64i, if_ps, if_ng, and_tr, fil_n1, fil_in, fil_out, le_tt, le_ff, lt_tt, lt_ff, eq_tt, eq_ff, M222, nx]
      · constructor
        · intro x
          refine ⟨?_, ?_, fun x _ _ => by omega, fun x _ _ => by omega⟩
          · rcases hu with rfl | rfl <;> rcases hv with rfl | rfl <;> simp at x ⊢
          · rcases hu with rfl | rfl <;> rcases hv with rfl | rfl <;> simp at x ⊢
        · rintro ⟨x, y, _⟩
          rw [if_pos x, if_pos y]
    | succ c ih =>
      intro T i j u v fT pa po hc hu hv
      have i0 := po.i0
      have j0 := po.j0
      have bT : BG T a n g := by
        have e0 := fT a (by omega)
        have e1 := fT (a + 79) (by omega)
        have e2 := fT (a + 80) (by omega)
        have e3 := fT (a + 81) (by omega)
        obtain ⟨h_hr, h_n1, h_sz, h_ks, h_rp, h_nz⟩ := h
        apply BG.mk1 <;> (try rw [e0]) <;> (try rw [e1]) <;> (try rw [e2]) <;> (try rw [e3]) <;> assumption
      have bT' : BG T b n' g' := by
        have e0 := fT b (by omega)
        have e1 := fT (b + 79) (by omega)
        have e2 := fT (b + 80) (by omega)
        have e3 := fT (b + 81) (by omega)
        obtain ⟨h_hr, h_n1, h_sz, h_ks, h_rp, h_nz⟩ := h'
        apply BG.mk1 <;> (try rw [e0]) <;> (try rw [e1]) <;> (try rw [e2]) <;> (try rw [e3]) <;> assumption
      by_cases q : i < n ∨ j < n'
      case neg => exact ih T i j u v fT pa po (by omega) hu hv
      have po' := po
      rw [← fT (a + 79) (by omega), ← fT (a + 80) (by omega), ← fT (b + 79) (by omega), ← fT (b + 80) (by omega)] at po'
      obtain ⟨p, m, i', j', R, po2, s1, s2, s3, s4, s5, s6, s7⟩ := p_step bT bT' pa po' q
      rw [fT (a + 79) (by omega), fT (a + 80) (by omega), fT (b + 79) (by omega), fT (b + 80) (by omega)] at po2
      rw [fT (a + 79) (by omega), fT (a + 80) (by omega)] at s6
      rw [fT (b + 79) (by omega), fT (b + 80) (by omega)] at s7
      unfold zR at R
      have f2 : ∀ c, c ≠ 32 → pst T p m (g p m) (g' p m) i' j' c = S c := fun c hc => ((pst_fr T p m (g p m) (g' p m) i' j').1 c hc).trans (fT c hc)
      have pa2 := PA_st T a b p m (g p m) (g' p m) i' j' pa.pa pa.pb
      obtain ⟨S', w, r, e, fr⟩ := ih (pst T p m (g p m) (g' p m) i' j') i' j' (if u = 1 ∨ g p m < g' p m then 1 else 0) (if v = 1 ∨ g' p m < g p m then 1 else 0) f2 pa2 po2 (by omega) (by split <;> omega) (by split <;> omega)
      refine ⟨S', w, fun Q => ?_, ?_, fr⟩
      · rw [← r Q]
        conv => lhs; rw [L222_22]
        have o1 : pst T p m (g p m) (g' p m) i' j' 32 6 = g p m := by unfold pst; simp (disch := omega) only [true_and, and_true, and_self, if_true, if_false, ite_true, ite_false, reduceIte, Int.reduceEq, Int.reduceNe, Int.reduceLT, Int.reduceLE, Int.reduceAdd, Int.reduceSub, Int.reduceMul, Int.reduceNeg, Int.reduceMod, Int.reduceDiv, Int.reduceToNat, Nat.reduceAdd, Nat.reduceLeDiff, List.length_cons, List.length_nil, not_false_eq_true, not_true_eq_false, ne_eq, or_false, false_or, or_self, false_and, and_false, or_true, true_or, ite_self, Int.add_sub_cancel, Int.sub_add_cancel, b_lc1, b_lc2, b_lc3, b_lc4, b_lc5, up_eq, up_ei, up_n1, up_n2, W32i, W8i, W16i, W64i, if_ps, if_ng, and_tr, fil_n1, fil_in, fil_out]
        have o2 : pst T p m (g p m) (g' p m) i' j' 32 7 = g' p m := by unfold pst; simp (disch := omega) only [true_and, and_true, and_self, if_true, if_false, ite_true, ite_false, reduceIte, Int.reduceEq, Int.reduceNe, Int.reduceLT, Int.reduceLE, Int.reduceAdd, Int.reduceSub, Int.reduceMul, Int.reduceNeg, Int.reduceMod, Int.reduceDiv, Int.reduceToNat, Nat.reduceAdd, Nat.reduceLeDiff, List.length_cons, List.length_nil, not_false_eq_true, not_true_eq_false, ne_eq, or_false, false_or, or_self, false_and, and_false, or_true, true_or, ite_self, Int.add_sub_cancel, Int.sub_add_cancel, b_lc1, b_lc2, b_lc3, b_lc4, b_lc5, up_eq, up_ei, up_n1, up_n2, W32i, W8i, W16i, W64i, if_ps, if_ng, and_tr, fil_n1, fil_in, fil_out]
        obtain ⟨T', hT'⟩ : ∃ T', pst T p m (g p m) (g' p m) i' j' = T' := ⟨_, rfl⟩
        rw [hT'] at R o1 o2 ⊢
        rcases hu with rfl | rfl <;> rcases hv with rfl | rfl <;> rcases Int.lt_trichotomy (g p m) (g' p m) with z1 | z1 | z1 <;> (clear ih e r; simp (disch := omega) only [bcd, true_and, and_true, and_self, if_true, if_false, ite_true, ite_false, reduceIte, Int.reduceEq, Int.reduceNe, Int.reduceLT, Int.reduceLE, Int.reduceAdd, Int.reduceSub, Int.reduceMul, Int.reduceNeg, Int.reduceMod, Int.reduceDiv, Int.reduceToNat, Nat.reduceAdd, Nat.reduceLeDiff, List.length_cons, List.length_nil, not_false_eq_true, not_true_eq_false, ne_eq, or_false, false_or, or_self, false_and, and_false, or_true, true_or, ite_self, Int.add_sub_cancel, Int.sub_add_cancel, b_lc1, b_lc2, b_lc3, b_lc4, b_lc5, up_eq, up_ei, up_n1, up_n2, W32i, W8i, W16i, W64i, if_ps, if_ng, and_tr, fil_n1, fil_in, fil_out, le_tt, le_ff, lt_tt, lt_ff, eq_tt, eq_ff, R, o1, o2]; iterate 14 (try (simp only [M222]; simp (disch := omega) only [bcd, true_and, and_true, and_self, if_true, if_false, ite_true, ite_false, reduceIte, Int.reduceEq, Int.reduceNe, Int.reduceLT, Int.reduceLE, Int.reduceAdd, Int.reduceSub, Int.reduceMul, Int.reduceNeg, Int.reduceMod, Int.reduceDiv, Int.reduceToNat, Nat.reduceAdd, Nat.reduceLeDiff, List.length_cons, List.length_nil, not_false_eq_true, not_true_eq_false, ne_eq, or_false, false_or, or_self, false_and, and_false, or_true, true_or, ite_self, Int.add_sub_cancel, Int.sub_add_cancel, b_lc1, b_lc2, b_lc3, b_lc4, b_lc5, up_eq, up_ei, up_n1, up_n2, W32i, W8i, W16i, W64i, if_ps, if_ng, and_tr, fil_n1, fil_in, fil_out, le_tt, le_ff, lt_tt, lt_ff, eq_tt, eq_ff, R, o1, o2])))
      · rw [e]
        constructor
        · rintro ⟨x1, x2, x3, x4⟩
          have y1 : u = 0 ∧ ¬ g p m < g' p m := by
            by_cases z : u = 1 ∨ g p m < g' p m
            · rw [if_pos z] at x1; omega
            · exact ⟨by omega, fun w => z (Or.inr w)⟩
          have y2 : v = 0 ∧ ¬ g' p m < g p m := by
            by_cases z : v = 1 ∨ g' p m < g p m
            · rw [if_pos z] at x2; omega
            · exact ⟨by omega, fun w => z (Or.inr w)⟩
          refine ⟨y1.1, y2.1, fun x a1 a2 => ?_, fun x a1 a2 => ?_⟩
          · by_cases z : i' ≤ x
            · exact x3 x z a2
            · have zz : x = i := by omega
              have := s6 (by omega)
              rw [zz, this.1, this.2]; omega
          · by_cases z : j' ≤ x
            · exact x4 x z a2
            · have zz : x = j := by omega
              have := s7 (by omega)
              rw [zz, this.1, this.2]; omega
        · rintro ⟨x1, x2, x3, x4⟩
          have eq : g p m = g' p m := by
            by_cases z : i < i'
            · have := s6 z
              rw [← this.1, ← this.2]
              exact x3 i (by omega) (by have := po2.i0; omega)
            · have := s7 (by omega)
              rw [← this.1, ← this.2]
              exact x4 j (by omega) (by have := po2.j0; omega)
          refine ⟨by rw [if_neg (by omega)], by rw [if_neg (by omega)], fun x a1 a2 => x3 x (by omega) a2, fun x a1 a2 => x4 x (by omega) a2⟩
  have bk := fun Q => b_bag k0.1 k0.2 hk hr Q
  have bl := fun Q => b_bag l0.1 l0.2 hl hr' Q
  have pa : PA (up (up (up (up S 32 0 a) 32 1 b) 32 2 0) 32 3 0) a b 0 0 := by apply PA.mk1 <;> simp (disch := omega) only [true_and, and_true, and_self, if_true, if_false, ite_true, ite_false, reduceIte, Int.reduceEq, Int.reduceNe, Int.reduceLT, Int.reduceLE, Int.reduceAdd, Int.reduceSub, Int.reduceMul, Int.reduceNeg, Int.reduceMod, Int.reduceDiv, Int.reduceToNat, Nat.reduceAdd, Nat.reduceLeDiff, List.length_cons, List.length_nil, not_false_eq_true, not_true_eq_false, ne_eq, or_false, false_or, or_self, false_and, and_false, or_true, true_or, ite_self, Int.add_sub_cancel, Int.sub_add_cancel, b_lc1, b_lc2, b_lc3, b_lc4, b_lc5, up_eq, up_ei, up_n1, up_n2, W32i, W8i, W16i, W64i, if_ps, if_ng, and_tr, fil_n1, fil_in, fil_out]
  obtain ⟨S', w, r, e, fr⟩ := lp (n + n').toNat (up (up (up (up S 32 0 a) 32 1 b) 32 2 0) 32 3 0) 0 0 0 0 (fun c hc => by simp (disch := omega) only [true_and, and_true, and_self, if_true, if_false, ite_true, ite_false, reduceIte, Int.reduceEq, Int.reduceNe, Int.reduceLT, Int.reduceLE, Int.reduceAdd, Int.reduceSub, Int.reduceMul, Int.reduceNeg, Int.reduceMod, Int.reduceDiv, Int.reduceToNat, Nat.reduceAdd, Nat.reduceLeDiff, List.length_cons, List.length_nil, not_false_eq_true, not_true_eq_false, ne_eq, or_false, false_or, or_self, false_and, and_false, or_true, true_or, ite_self, Int.add_sub_cancel, Int.sub_add_cancel, b_lc1, b_lc2, b_lc3, b_lc4, b_lc5, up_eq, up_ei, up_n1, up_n2, W32i, W8i, W16i, W64i, if_ps, if_ng, and_tr, fil_n1, fil_in, fil_out, up_fn]) pa (PO_0 h.ks.n0 h'.ks.n0) (by omega) (by omega) (by omega)
  refine ⟨S', w, fun Q => ?_, ?_, fr⟩
  · rw [← r Q]
    simp (disch := omega) only [bcd, true_and, and_true, and_self, if_true, if_false, ite_true, ite_false, reduceIte, Int.reduceEq, Int.reduceNe, Int.reduceLT, Int.reduceLE, Int.reduceAdd, Int.reduceSub, Int.reduceMul, Int.reduceNeg, Int.reduceMod, Int.reduceDiv, Int.reduceToNat, Nat.reduceAdd, Nat.reduceLeDiff, List.length_cons, List.length_nil, not_false_eq_true, not_true_eq_false, ne_eq, or_false, false_or, or_self, false_and, and_false, or_true, true_or, ite_self, Int.add_sub_cancel, Int.sub_add_cancel, b_lc1, b_lc2, b_lc3, b_lc4, b_lc5, up_eq, up_ei, up_n1, up_n2, W32i, W8i, W16i, W64i, if_ps, if_ng, and_tr, fil_n1, fil_in, fil_out, le_tt, le_ff, lt_tt, lt_ff, eq_tt, eq_ff, M222, M234, bk, bl]
  · rw [e]
    constructor
    · rintro ⟨_, _, x3, x4⟩ p m
      by_cases z : ∃ i, 0 ≤ i ∧ i < n ∧ S (a + 79) i = p ∧ S (a + 80) i = m
      · obtain ⟨i, a1, a2, a3, a4⟩ := z
        rw [← a3, ← a4]; exact x3 i a1 a2
      · by_cases y : ∃ i, 0 ≤ i ∧ i < n' ∧ S (b + 79) i = p ∧ S (b + 80) i = m
        · obtain ⟨i, a1, a2, a3, a4⟩ := y
          rw [← a3, ← a4]; exact x4 i a1 a2
        · rw [h.rp.no1 p m (fun i a1 a2 a3 => z ⟨i, a1, a2, a3⟩), h'.rp.no1 p m (fun i a1 a2 a3 => y ⟨i, a1, a2, a3⟩)]
    · intro x
      exact ⟨rfl, rfl, fun i _ _ => x _ _, fun i _ _ => x _ _⟩
