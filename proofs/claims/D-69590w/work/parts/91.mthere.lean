-- uses: 90
/-! M: the inputs and the collateral -/
def MT (S : Sto) (f : F) (sc : Int) (L : Led) : Prop := (TF f sc) ∧ (MD S f) ∧ (MFl S f) ∧ (ML S L) ∧ (LW L)
theorem MT.mk1 {S : Sto} {f : F} {sc : Int} {L : Led} (t : TF f sc) (d : MD S f) (s : MFl S f) (l : ML S L) (w : LW L) : MT S f sc L := by unfold MT; exact ⟨t, d, s, l, w⟩
theorem MT.t {S : Sto} {f : F} {sc : Int} {L : Led} (h : MT S f sc L) : TF f sc := by unfold MT at h; exact h.1
theorem MT.d {S : Sto} {f : F} {sc : Int} {L : Led} (h : MT S f sc L) : MD S f := by unfold MT at h; exact h.2.1
theorem MT.s {S : Sto} {f : F} {sc : Int} {L : Led} (h : MT S f sc L) : MFl S f := by unfold MT at h; exact h.2.2.1
theorem MT.l {S : Sto} {f : F} {sc : Int} {L : Led} (h : MT S f sc L) : ML S L := by unfold MT at h; exact h.2.2.2.1
theorem MT.w {S : Sto} {f : F} {sc : Int} {L : Led} (h : MT S f sc L) : LW L := by unfold MT at h; exact h.2.2.2.2
/-- only the rows of inputs and sides, and how many they are, changed -/
def thfr (S S' : Sto) : Prop := (∀ b, b ≠ 34 → b ≠ 143 → b ≠ 144 → S' b = S b) ∧ ∀ i, i ≠ 52 → i ≠ 54 → S' 34 i = S 34 i
theorem thfr.rf (S : Sto) : thfr S S := ⟨fun _ _ _ _ => rfl, fun _ _ _ => rfl⟩
theorem thfr.tr {S S' S'' : Sto} (h : thfr S S') (g : thfr S' S'') : thfr S S'' := ⟨fun b a c d => (g.1 b a c d).trans (h.1 b a c d), fun i a b => (g.2 i a b).trans (h.2 i a b)⟩
theorem MT.fr {S S' : Sto} {f : F} {sc : Int} {L : Led} (h : MT S f sc L) (e : thfr S S') : MT S' f sc L := by
  have g : ∀ i, i ≠ 52 → i ≠ 54 → S' 34 i = S 34 i := e.2
  have d : MD S' f := by
    have h := h.d
    obtain ⟨h_v, h_sz, h_fm, h_tg, h_ct, h_wh⟩ := h
    apply MD.mk1 <;> first | assumption | (rw [e.1 _ (by decide) (by decide) (by decide)]; assumption)
  have s : MFl S' f := by
    have h := h.s
    obtain ⟨h_fl, h_tr⟩ := h
    apply MFl.mk1 <;> first | assumption | (rw [e.1 _ (by decide) (by decide) (by decide)]; assumption)
  have l : ML S' L := by
    have h := h.l
    obtain ⟨h_made, h_endw, h_ad, h_md, h_sp, h_kd, h_ds, h_po, h_na, h_am, h_da, h_ht, h_ud, h_bg, h_pts, h_aps, h_tks⟩ := h
    apply ML.mk1 <;> first | (rw [e.2 _ (by decide) (by decide)]; assumption) | (rw [e.1 _ (by decide) (by decide) (by decide)]; assumption)
  apply MT.mk1
  case t => exact h.t
  case d => exact d
  case s => exact s
  case l => exact l
  case w => exact h.w
theorem m_isLiveL {S : Sto} {L : Led} (h : ML S L) (w : LW L) (n : Int) (n0 : 0 ≤ n) (n1 : n < L.n) (Q : ZQ) : zCall Cd 270 2 [(34, 34), (0, n)] S Q = Q S (0, if zlive L n then 1 else 0) := by
  have sz := h.made
  have nn := w.n
  have sp := h.sp n n0 n1
  by_cases c : L.sp n < 0
  · rw [if_pos ⟨n0, n1, c⟩]
    simp (disch := omega) only [bcd, true_and, and_true, and_self, if_true, if_false, ite_true, ite_false, reduceIte, Int.reduceEq, Int.reduceNe, Int.reduceLT, Int.reduceLE, Int.reduceAdd, Int.reduceSub, Int.reduceMul, Int.reduceNeg, Int.reduceMod, Int.reduceDiv, Int.reduceToNat, Nat.reduceAdd, Nat.reduceLeDiff, List.length_cons, List.length_nil, not_false_eq_true, not_true_eq_false, ne_eq, or_false, false_or, or_self, false_and, and_false, or_true, true_or, ite_self, Int.add_sub_cancel, Int.sub_add_cancel, b_lc1, b_lc2, b_lc3, b_lc4, b_lc5, up_eq, up_ei, up_n1, up_n2, W32i, W8i, W16i, W64i, if_ps, if_ng, and_tr, fil_n1, fil_in, fil_out, le_tt, le_ff, lt_tt, lt_ff, eq_tt, eq_ff, M270, sz, sp]
  · rw [if_neg (fun x => c x.2.2)]
    simp (disch := omega) only [bcd, true_and, and_true, and_self, if_true, if_false, ite_true, ite_false, reduceIte, Int.reduceEq, Int.reduceNe, Int.reduceLT, Int.reduceLE, Int.reduceAdd, Int.reduceSub, Int.reduceMul, Int.reduceNeg, Int.reduceMod, Int.reduceDiv, Int.reduceToNat, Nat.reduceAdd, Nat.reduceLeDiff, List.length_cons, List.length_nil, not_false_eq_true, not_true_eq_false, ne_eq, or_false, false_or, or_self, false_and, and_false, or_true, true_or, ite_self, Int.add_sub_cancel, Int.sub_add_cancel, b_lc1, b_lc2, b_lc3, b_lc4, b_lc5, up_eq, up_ei, up_n1, up_n2, W32i, W8i, W16i, W64i, if_ps, if_ng, and_tr, fil_n1, fil_in, fil_out, le_tt, le_ff, lt_tt, lt_ff, eq_tt, eq_ff, M270, sz, sp]
abbrev mlv (L : Led) (n : Int) : Int := if zlive L n then n else -1
/-- the inner rows: one asks whether it is there already -/
theorem m_thA {S : Sto} {f : F} (i n : Int) (b : Bool) (i0 : 0 ≤ i) (i8 : i < 8) (P : Nat → Bool) (hP : b = true → ∀ j : Nat, (j : Int) < i → P j = decide (S 143 j ≠ S 143 i)) (Q : ZQ) : ∀ (c j : Nat), (j : Int) + c = i → zG Cd 295 (Cd 295 120) [(34, 34), (0, zb1 b), (0, i), (1, n), (9, 0), (0, (j : Int))] [] S Q = zG Cd 295 (Cd 295 120) [(34, 34), (0, zb1 (b && zall P c j)), (0, i), (1, n), (9, 0), (0, i)] [] S Q := by
  intro c
  induction c generalizing b with
  | zero =>
    intro j hj
    rw [zall, Bool.and_true, show (j : Int) = i by omega]
  | succ c ih =>
    intro j hj
    have st : zG Cd 295 (Cd 295 120) [(34, 34), (0, zb1 b), (0, i), (1, n), (9, 0), (0, (j : Int))] [] S Q = zG Cd 295 (Cd 295 120) [(34, 34), (0, zb1 (b && P j)), (0, i), (1, n), (9, 0), (0, (j : Int) + 1)] [] S Q := by
      conv => lhs; rw [L295_120]
      cases b with
      | false =>
        simp only [Bool.false_and, zb1_f]
        simp (disch := omega) only [bcd, true_and, and_true, and_self, if_true, if_false, ite_true, ite_false, reduceIte, Int.reduceEq, Int.reduceNe, Int.reduceLT, Int.reduceLE, Int.reduceAdd, Int.reduceSub, Int.reduceMul, Int.reduceNeg, Int.reduceMod, Int.reduceDiv, Int.reduceToNat, Nat.reduceAdd, Nat.reduceLeDiff, List.length_cons, List.length_nil, not_false_eq_true, not_true_eq_false, ne_eq, or_false, false_or, or_self, false_and, and_false, or_true, true_or, ite_self, Int.add_sub_cancel, Int.sub_add_cancel, b_lc1, b_lc2, b_lc3, b_lc4, b_lc5, up_eq, up_ei, up_n1, up_n2, W32i, W8i, W16i, W64i, if_ps, if_ng, and_tr, fil_n1, fil_in, fil_out, le_tt, le_ff, lt_tt, lt_ff, eq_tt, eq_ff, M295]
      | true =>
        have e := hP rfl j (by omega)
        by_cases q : S 143 j = S 143 i
        · rw [e, show decide (S 143 (j : Int) ≠ S 143 i) = false from decide_eq_false (fun x => x q)]
          simp only [Bool.and_false, zb1_f, zb1_t]
          simp (disch := omega) only [bcd, true_and, and_true, and_self, if_true, if_false, ite_true, ite_false, reduceIte, Int.reduceEq, Int.reduceNe, Int.reduceLT, Int.reduceLE, Int.reduceAdd, Int.reduceSub, Int.reduceMul, Int.reduceNeg, Int.reduceMod, Int.reduceDiv, Int.reduceToNat, Nat.reduceAdd, Nat.reduceLeDiff, List.length_cons, List.length_nil, not_false_eq_true, not_true_eq_false, ne_eq, or_false, false_or, or_self, false_and, and_false, or_true, true_or, ite_self, Int.add_sub_cancel, Int.sub_add_cancel, b_lc1, b_lc2, b_lc3, b_lc4, b_lc5, up_eq, up_ei, up_n1, up_n2, W32i, W8i, W16i, W64i, if_ps, if_ng, and_tr, fil_n1, fil_in, fil_out, le_tt, le_ff, lt_tt, lt_ff, eq_tt, eq_ff, M295, q]
        · rw [e, show decide (S 143 (j : Int) ≠ S 143 i) = true from decide_eq_true q]
          simp only [Bool.and_true, zb1_t]
          simp (disch := omega) only [bcd, true_and, and_true, and_self, if_true, if_false, ite_true, ite_false, reduceIte, Int.reduceEq, Int.reduceNe, Int.reduceLT, Int.reduceLE, Int.reduceAdd, Int.reduceSub, Int.reduceMul, Int.reduceNeg, Int.reduceMod, Int.reduceDiv, Int.reduceToNat, Nat.reduceAdd, Nat.reduceLeDiff, List.length_cons, List.length_nil, not_false_eq_true, not_true_eq_false, ne_eq, or_false, false_or, or_self, false_and, and_false, or_true, true_or, ite_self, Int.add_sub_cancel, Int.sub_add_cancel, b_lc1, b_lc2, b_lc3, b_lc4, b_lc5, up_eq, up_ei, up_n1, up_n2, W32i, W8i, W16i, W64i, if_ps, if_ng, and_tr, fil_n1, fil_in, fil_out, le_tt, le_ff, lt_tt, lt_ff, eq_tt, eq_ff, M295, q]
    have I := ih (b && P j) (fun h => hP (by rw [Bool.and_eq_true] at h; exact h.1)) (j + 1) (by omega)
    rw [show ((j + 1 : Nat) : Int) = (j : Int) + 1 by omega] at I
    rw [st, I, zall, Bool.and_assoc]
theorem m_thB1 {S : Sto} {f : F} (i n : Int) (b : Bool) (i0 : 0 ≤ i) (i8 : i < 4) (P : Nat → Bool) (hP : b = true → ∀ j : Nat, (j : Int) < i → P j = decide (S 144 j ≠ S 144 i)) (Q : ZQ) : ∀ (c j : Nat), (j : Int) + c = i → zG Cd 295 (Cd 295 249) [(34, 34), (0, zb1 b), (0, i), (1, n), (9, 0), (0, (j : Int))] [] S Q = zG Cd 295 (Cd 295 249) [(34, 34), (0, zb1 (b && zall P c j)), (0, i), (1, n), (9, 0), (0, i)] [] S Q := by
  intro c
  induction c generalizing b with
  | zero =>
    intro j hj
    rw [zall, Bool.and_true, show (j : Int) = i by omega]
  | succ c ih =>
    intro j hj
    have st : zG Cd 295 (Cd 295 249) [(34, 34), (0, zb1 b), (0, i), (1, n), (9, 0), (0, (j : Int))] [] S Q = zG Cd 295 (Cd 295 249) [(34, 34), (0, zb1 (b && P j)), (0, i), (1, n), (9, 0), (0, (j : Int) + 1)] [] S Q := by
      conv => lhs; rw [L295_249]
      cases b with
      | false =>
        simp only [Bool.false_and, zb1_f]
        simp (disch := omega) only [bcd, true_and, and_true, and_self, if_true, if_false, ite_true, ite_false, reduceIte, Int.reduceEq, Int.reduceNe, Int.reduceLT, Int.reduceLE, Int.reduceAdd, Int.reduceSub, Int.reduceMul, Int.reduceNeg, Int.reduceMod, Int.reduceDiv, Int.reduceToNat, Nat.reduceAdd, Nat.reduceLeDiff, List.length_cons, List.length_nil, not_false_eq_true, not_true_eq_false, ne_eq, or_false, false_or, or_self, false_and, and_false, or_true, true_or, ite_self, Int.add_sub_cancel, Int.sub_add_cancel, b_lc1, b_lc2, b_lc3, b_lc4, b_lc5, up_eq, up_ei, up_n1, up_n2, W32i, W8i, W16i, W64i, if_ps, if_ng, and_tr, fil_n1, fil_in, fil_out, le_tt, le_ff, lt_tt, lt_ff, eq_tt, eq_ff, M295]
      | true =>
        have e := hP rfl j (by omega)
        by_cases q : S 144 j = S 144 i
        · rw [e, show decide (S 144 (j : Int) ≠ S 144 i) = false from decide_eq_false (fun x => x q)]
          simp only [Bool.and_false, zb1_f, zb1_t]
          simp (disch := omega) only [bcd, true_and, and_true, and_self, if_true, if_false, ite_true, ite_false, reduceIte, Int.reduceEq, Int.reduceNe, Int.reduceLT, Int.reduceLE, Int.reduceAdd, Int.reduceSub, Int.reduceMul, Int.reduceNeg, Int.reduceMod, Int.reduceDiv, Int.reduceToNat, Nat.reduceAdd, Nat.reduceLeDiff, List.length_cons, List.length_nil, not_false_eq_true, not_true_eq_false, ne_eq, or_false, false_or, or_self, false_and, and_false, or_true, true_or, ite_self, Int.add_sub_cancel, Int.sub_add_cancel, b_lc1, b_lc2, b_lc3, b_lc4, b_lc5, up_eq, up_ei, up_n1, up_n2, W32i, W8i, W16i, W64i, if_ps, if_ng, and_tr, fil_n1, fil_in, fil_out, le_tt, le_ff, lt_tt, lt_ff, eq_tt, eq_ff, M295, q]
        · rw [e, show decide (S 144 (j : Int) ≠ S 144 i) = true from decide_eq_true q]
          simp only [Bool.and_true, zb1_t]
          simp (disch := omega) only [bcd, true_and, and_true, and_self, if_true, if_false, ite_true, ite_false, reduceIte, Int.reduceEq, Int.reduceNe, Int.reduceLT, Int.reduceLE, Int.reduceAdd, Int.reduceSub, Int.reduceMul, Int.reduceNeg, Int.reduceMod, Int.reduceDiv, Int.reduceToNat, Nat.reduceAdd, Nat.reduceLeDiff, List.length_cons, List.length_nil, not_false_eq_true, not_true_eq_false, ne_eq, or_false, false_or, or_self, false_and, and_false, or_true, true_or, ite_self, Int.add_sub_cancel, Int.sub_add_cancel, b_lc1, b_lc2, b_lc3, b_lc4, b_lc5, up_eq, up_ei, up_n1, up_n2, W32i, W8i, W16i, W64i, if_ps, if_ng, and_tr, fil_n1, fil_in, fil_out, le_tt, le_ff, lt_tt, lt_ff, eq_tt, eq_ff, M295, q]
    have I := ih (b && P j) (fun h => hP (by rw [Bool.and_eq_true] at h; exact h.1)) (j + 1) (by omega)
    rw [show ((j + 1 : Nat) : Int) = (j : Int) + 1 by omega] at I
    rw [st, I, zall, Bool.and_assoc]
theorem m_thB2 {S : Sto} {f : F} (i n m : Int) (b : Bool) (i0 : 0 ≤ i) (i8 : i < 4) (m8 : m ≤ 8) (hm : S 34 52 = m) (P : Nat → Bool) (hP : b = true → ∀ j : Nat, (j : Int) < m → P j = decide (S 143 j ≠ S 144 i)) (Q : ZQ) : ∀ (c j : Nat), (j : Int) + c = m → zG Cd 295 (Cd 295 290) [(34, 34), (0, zb1 b), (0, i), (1, n), (9, 0), (0, (j : Int))] [] S Q = zG Cd 295 (Cd 295 290) [(34, 34), (0, zb1 (b && zall P c j)), (0, i), (1, n), (9, 0), (0, m)] [] S Q := by
  intro c
  induction c generalizing b with
  | zero =>
    intro j hj
    rw [zall, Bool.and_true, show (j : Int) = m by omega]
  | succ c ih =>
    intro j hj
    have st : zG Cd 295 (Cd 295 290) [(34, 34), (0, zb1 b), (0, i), (1, n), (9, 0), (0, (j : Int))] [] S Q = zG Cd 295 (Cd 295 290) [(34, 34), (0, zb1 (b && P j)), (0, i), (1, n), (9, 0), (0, (j : Int) + 1)] [] S Q := by
      conv => lhs; rw [L295_290]
      cases b with
      | false =>
        simp only [Bool.false_and, zb1_f]
        simp (disch := omega) only [bcd, true_and, and_true, and_self, if_true, if_false, ite_true, ite_false, reduceIte, Int.reduceEq, Int.reduceNe, Int.reduceLT, Int.reduceLE, Int.reduceAdd, Int.reduceSub, Int.reduceMul, Int.reduceNeg, Int.reduceMod, Int.reduceDiv, Int.reduceToNat, Nat.reduceAdd, Nat.reduceLeDiff, List.length_cons, List.length_nil, not_false_eq_true, not_true_eq_false, ne_eq, or_false, false_or, or_self, false_and, and_false, or_true, true_or, ite_self, Int.add_sub_cancel, Int.sub_add_cancel, b_lc1, b_lc2, b_lc3, b_lc4, b_lc5, up_eq, up_ei, up_n1, up_n2, W32i, W8i, W16i, W64i, if_ps, if_ng, and_tr, fil_n1, fil_in, fil_out, le_tt, le_ff, lt_tt, lt_ff, eq_tt, eq_ff, M295, hm]
      | true =>
        have e := hP rfl j (by omega)
        by_cases q : S 143 j = S 144 i
        · rw [e, show decide (S 143 (j : Int) ≠ S 144 i) = false from decide_eq_false (fun x => x q)]
          simp only [Bool.and_false, zb1_f, zb1_t]
          simp (disch := omega) only [bcd, true_and, and_true, and_self, if_true, if_false, ite_true, ite_false, reduceIte, Int.reduceEq, Int.reduceNe, Int.reduceLT, Int.reduceLE, Int.reduceAdd, Int.reduceSub, Int.reduceMul, Int.reduceNeg, Int.reduceMod, Int.reduceDiv, Int.reduceToNat, Nat.reduceAdd, Nat.reduceLeDiff, List.length_cons, List.length_nil, not_false_eq_true, not_true_eq_false, ne_eq, or_false, false_or, or_self, false_and, and_false, or_true, true_or, ite_self, Int.add_sub_cancel, Int.sub_add_cancel, b_lc1, b_lc2, b_lc3, b_lc4, b_lc5, up_eq, up_ei, up_n1, up_n2, W32i, W8i, W16i, W64i, if_ps, if_ng, and_tr, fil_n1, fil_in, fil_out, le_tt, le_ff, lt_tt, lt_ff, eq_tt, eq_ff, M295, q, hm]
        · rw [e, show decide (S 143 (j : Int) ≠ S 144 i) = true from decide_eq_true q]
          simp only [Bool.and_true, zb1_t]
          simp (disch := omega) only [bcd, true_and, and_true, and_self, if_true, if_false, ite_true, ite_false, reduceIte, Int.reduceEq, Int.reduceNe, Int.reduceLT, Int.reduceLE, Int.reduceAdd, Int.reduceSub, Int.reduceMul, Int.reduceNeg, Int.reduceMod, Int.reduceDiv, Int.reduceToNat, Nat.reduceAdd, Nat.reduceLeDiff, List.length_cons, List.length_nil, not_false_eq_true, not_true_eq_false, ne_eq, or_false, false_or, or_self, false_and, and_false, or_true, true_or, ite_self, Int.add_sub_cancel, Int.sub_add_cancel, b_lc1, b_lc2, b_lc3, b_lc4, b_lc5, up_eq, up_ei, up_n1, up_n2, W32i, W8i, W16i, W64i, if_ps, if_ng, and_tr, fil_n1, fil_in, fil_out, le_tt, le_ff, lt_tt, lt_ff, eq_tt, eq_ff, M295, q, hm]
    have I := ih (b && P j) (fun h => hP (by rw [Bool.and_eq_true] at h; exact h.1)) (j + 1) (by omega)
    rw [show ((j + 1 : Nat) : Int) = (j : Int) + 1 by omega] at I
    rw [st, I, zall, Bool.and_assoc]
