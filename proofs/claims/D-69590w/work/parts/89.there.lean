-- uses: 80 78 44
/-! what a transaction is, plainly -/
def TF (f : F) (sc : Int) : Prop := (fval 1 f) ∧ (fsize f ≤ 200) ∧ (0 < fsize f) ∧ (cM f 0 0 8) ∧ (0 ≤ sc ∧ sc ≤ 32) ∧ (cL f (w0 f 0) 1 8) ∧ (∀ i : Nat, (i : Int) < nc f (w0 f 0) → cM f (wi f (w0 f 0) i) 0 2 ∧ nf f (wi f (w0 f 0) i + 1) = 3) ∧ (cL f (w0 f 1) 0 4) ∧ (∀ i : Nat, (i : Int) < nc f (w0 f 1) → nf f (wi f (w0 f 1) i) = 3) ∧ (cL f (w0 f 2) 0 8) ∧ (∀ i : Nat, (i : Int) < nc f (w0 f 2) → pOut f ((wi f (w0 f 2) i)) sc) ∧ (cI f (w0 f 3) 0 4611686018427387904) ∧ (cL f (w0 f 4) 2 2) ∧ (nf f (w0 f 4 + 1) = 3 ∧ nf f (w0 f 4 + 2) = 3) ∧ (cL f (w0 f 5) 0 8) ∧ (∀ i : Nat, (i : Int) < nc f (w0 f 5) → pCos f (w0 f 5) 1 sc i = true) ∧ (nf f (w0 f 6) = 1) ∧ (rdm f (w0 f 6) (w0 f 5) (nc f (w0 f 5)).toNat 0 0 0 = true) ∧ (cL f (w0 f 7) 0 8) ∧ (∀ i : Nat, (i : Int) < nc f (w0 f 7) → cI f (wi f (w0 f 7) i) 0 255)
theorem TF.mk1 {f : F} {sc : Int} (v : fval 1 f) (sz : fsize f ≤ 200) (f0 : 0 < fsize f) (hM : cM f 0 0 8) (s0 : 0 ≤ sc ∧ sc ≤ 32) (l0 : cL f (w0 f 0) 1 8) (ins : ∀ i : Nat, (i : Int) < nc f (w0 f 0) → cM f (wi f (w0 f 0) i) 0 2 ∧ nf f (wi f (w0 f 0) i + 1) = 3) (l1 : cL f (w0 f 1) 0 4) (col : ∀ i : Nat, (i : Int) < nc f (w0 f 1) → nf f (wi f (w0 f 1) i) = 3) (l2 : cL f (w0 f 2) 0 8) (out : ∀ i : Nat, (i : Int) < nc f (w0 f 2) → pOut f ((wi f (w0 f 2) i)) sc) (fe : cI f (w0 f 3) 0 4611686018427387904) (l4 : cL f (w0 f 4) 2 2) (vf : nf f (w0 f 4 + 1) = 3 ∧ nf f (w0 f 4 + 2) = 3) (l5 : cL f (w0 f 5) 0 8) (mnt : ∀ i : Nat, (i : Int) < nc f (w0 f 5) → pCos f (w0 f 5) 1 sc i = true) (m6 : nf f (w0 f 6) = 1) (rd : rdm f (w0 f 6) (w0 f 5) (nc f (w0 f 5)).toNat 0 0 0 = true) (l7 : cL f (w0 f 7) 0 8) (sg : ∀ i : Nat, (i : Int) < nc f (w0 f 7) → cI f (wi f (w0 f 7) i) 0 255) : TF f sc := by unfold TF; exact ⟨v, sz, f0, hM, s0, l0, ins, l1, col, l2, out, fe, l4, vf, l5, mnt, m6, rd, l7, sg⟩
theorem TF.v {f : F} {sc : Int} (h : TF f sc) : fval 1 f := by unfold TF at h; exact h.1
theorem TF.sz {f : F} {sc : Int} (h : TF f sc) : fsize f ≤ 200 := by unfold TF at h; exact h.2.1
theorem TF.f0 {f : F} {sc : Int} (h : TF f sc) : 0 < fsize f := by unfold TF at h; exact h.2.2.1
theorem TF.hM {f : F} {sc : Int} (h : TF f sc) : cM f 0 0 8 := by unfold TF at h; exact h.2.2.2.1
theorem TF.s0 {f : F} {sc : Int} (h : TF f sc) : 0 ≤ sc ∧ sc ≤ 32 := by unfold TF at h; exact h.2.2.2.2.1
theorem TF.l0 {f : F} {sc : Int} (h : TF f sc) : cL f (w0 f 0) 1 8 := by unfold TF at h; exact h.2.2.2.2.2.1
theorem TF.ins {f : F} {sc : Int} (h : TF f sc) : ∀ i : Nat, (i : Int) < nc f (w0 f 0) → cM f (wi f (w0 f 0) i) 0 2 ∧ nf f (wi f (w0 f 0) i + 1) = 3 := by unfold TF at h; exact h.2.2.2.2.2.2.1
theorem TF.l1 {f : F} {sc : Int} (h : TF f sc) : cL f (w0 f 1) 0 4 := by unfold TF at h; exact h.2.2.2.2.2.2.2.1
theorem TF.col {f : F} {sc : Int} (h : TF f sc) : ∀ i : Nat, (i : Int) < nc f (w0 f 1) → nf f (wi f (w0 f 1) i) = 3 := by unfold TF at h; exact h.2.2.2.2.2.2.2.2.1
theorem TF.l2 {f : F} {sc : Int} (h : TF f sc) : cL f (w0 f 2) 0 8 := by unfold TF at h; exact h.2.2.2.2.2.2.2.2.2.1
theorem TF.out {f : F} {sc : Int} (h : TF f sc) : ∀ i : Nat, (i : Int) < nc f (w0 f 2) → pOut f ((wi f (w0 f 2) i)) sc := by unfold TF at h; exact h.2.2.2.2.2.2.2.2.2.2.1
theorem TF.fe {f : F} {sc : Int} (h : TF f sc) : cI f (w0 f 3) 0 4611686018427387904 := by unfold TF at h; exact h.2.2.2.2.2.2.2.2.2.2.2.1
theorem TF.l4 {f : F} {sc : Int} (h : TF f sc) : cL f (w0 f 4) 2 2 := by unfold TF at h; exact h.2.2.2.2.2.2.2.2.2.2.2.2.1
theorem TF.vf {f : F} {sc : Int} (h : TF f sc) : nf f (w0 f 4 + 1) = 3 ∧ nf f (w0 f 4 + 2) = 3 := by unfold TF at h; exact h.2.2.2.2.2.2.2.2.2.2.2.2.2.1
theorem TF.l5 {f : F} {sc : Int} (h : TF f sc) : cL f (w0 f 5) 0 8 := by unfold TF at h; exact h.2.2.2.2.2.2.2.2.2.2.2.2.2.2.1
theorem TF.mnt {f : F} {sc : Int} (h : TF f sc) : ∀ i : Nat, (i : Int) < nc f (w0 f 5) → pCos f (w0 f 5) 1 sc i = true := by unfold TF at h; exact h.2.2.2.2.2.2.2.2.2.2.2.2.2.2.2.1
theorem TF.m6 {f : F} {sc : Int} (h : TF f sc) : nf f (w0 f 6) = 1 := by unfold TF at h; exact h.2.2.2.2.2.2.2.2.2.2.2.2.2.2.2.2.1
theorem TF.rd {f : F} {sc : Int} (h : TF f sc) : rdm f (w0 f 6) (w0 f 5) (nc f (w0 f 5)).toNat 0 0 0 = true := by unfold TF at h; exact h.2.2.2.2.2.2.2.2.2.2.2.2.2.2.2.2.2.1
theorem TF.l7 {f : F} {sc : Int} (h : TF f sc) : cL f (w0 f 7) 0 8 := by unfold TF at h; exact h.2.2.2.2.2.2.2.2.2.2.2.2.2.2.2.2.2.2.1
theorem TF.sg {f : F} {sc : Int} (h : TF f sc) : ∀ i : Nat, (i : Int) < nc f (w0 f 7) → cI f (wi f (w0 f 7) i) 0 255 := by unfold TF at h; exact h.2.2.2.2.2.2.2.2.2.2.2.2.2.2.2.2.2.2.2
theorem TF_of {f : F} {sc : Int} (h : isTx f sc = true) (v : fval 1 f) (sz : fsize f ≤ 200) (f0 : 0 < fsize f) (s0 : 0 ≤ sc ∧ sc ≤ 32) : TF f sc := by
  obtain ⟨hM, ⟨A1, A2, A3, A4⟩, ⟨B1, B2⟩, ⟨C1, C2, C3, C4, C5⟩, D1, D2, D3, D4, D5⟩ := of_decide_eq_true h
  have i4 := w0_in v hM f0 4 (by omega)
  have al : ∀ (P : Nat → Bool) (c : Nat), zall P c 0 = true → ∀ i, i < c → P i = true := fun P c h i hi => (zall_iff P c 0).mp h i (by omega) (by omega)
  apply TF.mk1
  case v => exact v
  case sz => exact sz
  case f0 => exact f0
  case hM => exact hM
  case s0 => exact s0
  case l0 => exact A1
  case ins => intro i hi; exact of_decide_eq_true (al _ _ A2 i (by omega))
  case l1 => exact A3
  case col => intro i hi; exact (of_decide_eq_true (al _ _ A4 i (by omega))).1
  case l2 => exact B1
  case out => intro i hi; exact of_decide_eq_true (al _ _ B2 i (by omega))
  case fe => exact C1
  case l4 => exact C2
  case vf =>
    have e0 : cI f (wi f (w0 f 4) 0) (-9223372036854775808) 9223372036854775807 := of_decide_eq_true (al _ _ C3 0 (by have := C2.2.1; omega))
    have e1 : cI f (wi f (w0 f 4) 1) (-9223372036854775808) 9223372036854775807 := of_decide_eq_true (al _ _ C3 1 (by have := C2.2.1; omega))
    have x0 : wi f (w0 f 4) 0 = w0 f 4 + 1 := rfl
    have nk := nk_in v (by omega) i4.2 (Or.inr C2.1) rfl
    have c2 := C2.2.1
    rw [x0] at e0
    have x1 : wi f (w0 f 4) 1 = w0 f 4 + 2 := by
      rw [wi, x0, (nW_of f 1 (w0 f 4 + 1) v (by omega) (by omega)).l1 (by rw [e0.1]; omega)]; omega
    rw [x1] at e1
    exact ⟨e0.1, e1.1⟩
  case l5 => exact C4
  case mnt => intro i hi; exact al _ _ C5 i (by omega)
  case m6 => exact D1
  case rd => exact D2
  case l7 => exact D3
  case sg => intro i hi; exact of_decide_eq_true (al _ _ D4 i (by omega))
theorem TF.fd {f : F} {sc : Int} (t : TF f sc) (j : Nat) (hj : j < 8) : 0 < w0 f j ∧ w0 f j < fsize f := w0_in t.v t.hM t.f0 j hj
theorem TF.iw {f : F} {sc : Int} (t : TF f sc) (i : Nat) (hi : (i : Int) < nc f (w0 f 0)) : 0 < wi f (w0 f 0) i ∧ wi f (w0 f 0) i + 2 < fsize f ∧ (i : Int) ≤ nch f (w0 f 0) := by
  have a := t.fd 0 (by omega)
  have b := wi_l t.v (by omega) a.2 t.l0.1 i hi
  have c := t.ins i hi
  have d := nk_in t.v (by omega) b.2.1 (Or.inl c.1.1) c.1.2.2
  exact ⟨by omega, by omega, by omega⟩
theorem TF.cw {f : F} {sc : Int} (t : TF f sc) (i : Nat) (hi : (i : Int) < nc f (w0 f 1)) : 0 < wi f (w0 f 1) i ∧ wi f (w0 f 1) i < fsize f ∧ (i : Int) ≤ nch f (w0 f 1) ∧ wi f (w0 f 1) i = w0 f 1 + 1 + i := by
  have a := t.fd 1 (by omega)
  have b := wi_l t.v (by omega) a.2 t.l1.1 i hi
  have c := wi_ints t.v (by omega) a.2 t.l1.1 i (by omega) (fun j hj => t.col j (by omega))
  exact ⟨by omega, b.2.1, by omega, c⟩
theorem TF.il {f : F} {sc : Int} (t : TF f sc) (i : Nat) (hi : (i : Int) < nc f (w0 f 0)) : zLong ((nt f (wi f (w0 f 0) i + 1))) := by
  have := t.iw i hi
  exact ((nW_of f 1 (wi f (w0 f 0) i + 1) t.v (by omega) (by omega)).t3 (t.ins i hi).2).1
theorem TF.cl {f : F} {sc : Int} (t : TF f sc) (i : Nat) (hi : (i : Int) < nc f (w0 f 1)) : zLong ((nt f (wi f (w0 f 1) i))) := by
  have := t.cw i hi
  exact ((nW_of f 1 (wi f (w0 f 1) i) t.v (by omega) (by omega)).t3 (t.col i hi)).1
abbrev zlive (L : Led) (n : Int) : Prop := 0 ≤ n ∧ n < L.n ∧ L.sp n < 0
def thA (L : Led) (f : F) (i : Nat) : Bool := decide (zlive L ((nt f (wi f (w0 f 0) i + 1)))) && zall (fun j => decide ((nt f (wi f (w0 f 0) j + 1)) ≠ (nt f (wi f (w0 f 0) i + 1)))) i 0
def thB (L : Led) (f : F) (i : Nat) : Bool := decide (zlive L ((nt f (wi f (w0 f 1) i)))) && (zall (fun j => decide ((nt f (wi f (w0 f 1) j)) ≠ (nt f (wi f (w0 f 1) i)))) i 0 && zall (fun j => decide ((nt f (wi f (w0 f 0) j + 1)) ≠ (nt f (wi f (w0 f 1) i)))) (nc f (w0 f 0)).toNat 0)
def there (L : Led) (f : F) : Bool := zall (thA L f) (nc f (w0 f 0)).toNat 0 && zall (thB L f) (nc f (w0 f 1)).toNat 0
/-! X -/
def XS (S : Sto) (f : F) (sc : Int) (L : Led) : Prop := (TF f sc) ∧ (XD S f) ∧ (SFl S f sc) ∧ (XL S L) ∧ (LW L)
theorem XS.mk1 {S : Sto} {f : F} {sc : Int} {L : Led} (t : TF f sc) (d : XD S f) (s : SFl S f sc) (l : XL S L) (w : LW L) : XS S f sc L := by unfold XS; exact ⟨t, d, s, l, w⟩
theorem XS.t {S : Sto} {f : F} {sc : Int} {L : Led} (h : XS S f sc L) : TF f sc := by unfold XS at h; exact h.1
theorem XS.d {S : Sto} {f : F} {sc : Int} {L : Led} (h : XS S f sc L) : XD S f := by unfold XS at h; exact h.2.1
theorem XS.s {S : Sto} {f : F} {sc : Int} {L : Led} (h : XS S f sc L) : SFl S f sc := by unfold XS at h; exact h.2.2.1
theorem XS.l {S : Sto} {f : F} {sc : Int} {L : Led} (h : XS S f sc L) : XL S L := by unfold XS at h; exact h.2.2.2.1
theorem XS.w {S : Sto} {f : F} {sc : Int} {L : Led} (h : XS S f sc L) : LW L := by unfold XS at h; exact h.2.2.2.2
theorem x_inputs {S : Sto} {f : F} {sc : Int} {L : Led} (h : XS S f sc L) (Q : ZQ) : zCall Cd 11 1 [(11, 11)] S Q = Q S (0, nc f (w0 f 0)) := by
  have a := h.t.fd 0 (by omega)
  have k0 : S 113 0 = w0 f 0 := h.s.fl 0 (by omega)
  have mn := fun Q => x_many h.d (w0 f 0) (by omega) a.2 (by have := h.t.l0.1; omega) Q
  simp (disch := omega) only [bcd, true_and, and_true, and_self, if_true, if_false, ite_true, ite_false, reduceIte, Int.reduceEq, Int.reduceNe, Int.reduceLT, Int.reduceLE, Int.reduceAdd, Int.reduceSub, Int.reduceMul, Int.reduceNeg, Int.reduceMod, Int.reduceDiv, Int.reduceToNat, Nat.reduceAdd, Nat.reduceLeDiff, List.length_cons, List.length_nil, not_false_eq_true, not_true_eq_false, ne_eq, or_false, false_or, or_self, false_and, and_false, or_true, true_or, ite_self, Int.add_sub_cancel, Int.sub_add_cancel, b_lc1, b_lc2, b_lc3, b_lc4, b_lc5, up_eq, up_ei, up_n1, up_n2, W32i, W8i, W16i, W64i, if_ps, if_ng, and_tr, fil_n1, fil_in, fil_out, le_tt, le_ff, lt_tt, lt_ff, eq_tt, eq_ff, M11, M254, k0, mn]
theorem x_collats {S : Sto} {f : F} {sc : Int} {L : Led} (h : XS S f sc L) (Q : ZQ) : zCall Cd 13 1 [(11, 11)] S Q = Q S (0, nc f (w0 f 1)) := by
  have a := h.t.fd 1 (by omega)
  have k0 : S 113 1 = w0 f 1 := h.s.fl 1 (by omega)
  have mn := fun Q => x_many h.d (w0 f 1) (by omega) a.2 (by have := h.t.l1.1; omega) Q
  simp (disch := omega) only [bcd, true_and, and_true, and_self, if_true, if_false, ite_true, ite_false, reduceIte, Int.reduceEq, Int.reduceNe, Int.reduceLT, Int.reduceLE, Int.reduceAdd, Int.reduceSub, Int.reduceMul, Int.reduceNeg, Int.reduceMod, Int.reduceDiv, Int.reduceToNat, Nat.reduceAdd, Nat.reduceLeDiff, List.length_cons, List.length_nil, not_false_eq_true, not_true_eq_false, ne_eq, or_false, false_or, or_self, false_and, and_false, or_true, true_or, ite_self, Int.add_sub_cancel, Int.sub_add_cancel, b_lc1, b_lc2, b_lc3, b_lc4, b_lc5, up_eq, up_ei, up_n1, up_n2, W32i, W8i, W16i, W64i, if_ps, if_ng, and_tr, fil_n1, fil_in, fil_out, le_tt, le_ff, lt_tt, lt_ff, eq_tt, eq_ff, M13, M254, k0, mn]
theorem x_inV {S : Sto} {f : F} {sc : Int} {L : Led} (h : XS S f sc L) (i : Nat) (hi : (i : Int) < nc f (w0 f 0)) (Q : ZQ) : zCall Cd 251 2 [(33, 33), (0, wi f (w0 f 0) i + 1)] S Q = Q S (1, (nt f (wi f (w0 f 0) i + 1))) := by
  have b := h.t.iw i hi
  have := x_value h.d (wi f (w0 f 0) i + 1) (by omega) (by omega) Q
  rw [if_pos (h.t.ins i hi).2] at this
  exact this
theorem x_inW {S : Sto} {f : F} {sc : Int} {L : Led} (h : XS S f sc L) (i : Nat) (hi : (i : Int) < nc f (w0 f 0)) (Q : ZQ) : zCall Cd 239 5 [(33, 33), (0, w0 f 0), (0, (i : Int))] S Q = Q S (0, wi f (w0 f 0) i) := by
  have a := h.t.fd 0 (by omega)
  have b := h.t.iw i hi
  have := x_within h.d (w0 f 0) (i : Int) (by omega) a.2 b.2.2 (by omega) Q
  rw [show ((i : Int)).toNat = i by omega] at this
  exact this
theorem x_coV {S : Sto} {f : F} {sc : Int} {L : Led} (h : XS S f sc L) (i : Nat) (hi : (i : Int) < nc f (w0 f 1)) (Q : ZQ) : zCall Cd 251 2 [(33, 33), (0, wi f (w0 f 1) i)] S Q = Q S (1, (nt f (wi f (w0 f 1) i))) := by
  have b := h.t.cw i hi
  have := x_value h.d (wi f (w0 f 1) i) (by omega) (by omega) Q
  rw [if_pos (h.t.col i hi)] at this
  exact this
theorem x_coW {S : Sto} {f : F} {sc : Int} {L : Led} (h : XS S f sc L) (i : Nat) (hi : (i : Int) < nc f (w0 f 1)) (Q : ZQ) : zCall Cd 239 5 [(33, 33), (0, w0 f 1), (0, (i : Int))] S Q = Q S (0, wi f (w0 f 1) i) := by
  have a := h.t.fd 1 (by omega)
  have b := h.t.cw i hi
  have := x_within h.d (w0 f 1) (i : Int) (by omega) a.2 b.2.2.1 (by omega) Q
  rw [show ((i : Int)).toNat = i by omega] at this
  exact this
theorem x_input {S : Sto} {f : F} {sc : Int} {L : Led} (h : XS S f sc L) (i : Nat) (hi : (i : Int) < nc f (w0 f 0)) (lv : zlive L ((nt f (wi f (w0 f 0) i + 1)))) (Q : ZQ) : zCall Cd 12 2 [(11, 11), (0, (i : Int))] S Q = Q S (0, (nt f (wi f (w0 f 0) i + 1))) := by
  have a := h.t.fd 0 (by omega)
  have k0 : S 113 0 = w0 f 0 := h.s.fl 0 (by omega)
  have b := h.t.iw i hi
  have sz := h.t.sz
  have n := h.w.n
  have e1 := fun Q => x_inW h i hi Q
  have e2 := fun Q => x_inV h i hi Q
  obtain ⟨l1, l2, l3⟩ := lv
  simp (disch := omega) only [bcd, true_and, and_true, and_self, if_true, if_false, ite_true, ite_false, reduceIte, Int.reduceEq, Int.reduceNe, Int.reduceLT, Int.reduceLE, Int.reduceAdd, Int.reduceSub, Int.reduceMul, Int.reduceNeg, Int.reduceMod, Int.reduceDiv, Int.reduceToNat, Nat.reduceAdd, Nat.reduceLeDiff, List.length_cons, List.length_nil, not_false_eq_true, not_true_eq_false, ne_eq, or_false, false_or, or_self, false_and, and_false, or_true, true_or, ite_self, Int.add_sub_cancel, Int.sub_add_cancel, b_lc1, b_lc2, b_lc3, b_lc4, b_lc5, up_eq, up_ei, up_n1, up_n2, W32i, W8i, W16i, W64i, if_ps, if_ng, and_tr, fil_n1, fil_in, fil_out, le_tt, le_ff, lt_tt, lt_ff, eq_tt, eq_ff, M12, M254, k0, e1, e2]
theorem x_collat {S : Sto} {f : F} {sc : Int} {L : Led} (h : XS S f sc L) (i : Nat) (hi : (i : Int) < nc f (w0 f 1)) (lv : zlive L ((nt f (wi f (w0 f 1) i)))) (Q : ZQ) : zCall Cd 14 2 [(11, 11), (0, (i : Int))] S Q = Q S (0, (nt f (wi f (w0 f 1) i))) := by
  have a := h.t.fd 1 (by omega)
  have k0 : S 113 1 = w0 f 1 := h.s.fl 1 (by omega)
  have b := h.t.cw i hi
  have sz := h.t.sz
  have n := h.w.n
  have e1 := fun Q => x_coW h i hi Q
  have e2 := fun Q => x_coV h i hi Q
  obtain ⟨l1, l2, l3⟩ := lv
  simp (disch := omega) only [bcd, true_and, and_true, and_self, if_true, if_false, ite_true, ite_false, reduceIte, Int.reduceEq, Int.reduceNe, Int.reduceLT, Int.reduceLE, Int.reduceAdd, Int.reduceSub, Int.reduceMul, Int.reduceNeg, Int.reduceMod, Int.reduceDiv, Int.reduceToNat, Nat.reduceAdd, Nat.reduceLeDiff, List.length_cons, List.length_nil, not_false_eq_true, not_true_eq_false, ne_eq, or_false, false_or, or_self, false_and, and_false, or_true, true_or, ite_self, Int.add_sub_cancel, Int.sub_add_cancel, b_lc1, b_lc2, b_lc3, b_lc4, b_lc5, up_eq, up_ei, up_n1, up_n2, W32i, W8i, W16i, W64i, if_ps, if_ng, and_tr, fil_n1, fil_in, fil_out, le_tt, le_ff, lt_tt, lt_ff, eq_tt, eq_ff, M14, M254, k0, e1, e2]
theorem x_isLive {S : Sto} {L : Led} (h : XL S L) (w : LW L) (n : Int) (Q : ZQ) : zCall Cd 51 3 [(12, 12), (1, n)] S Q = Q S (0, if zlive L n then 1 else 0) := by
  have sz := h.size
  have nn := w.n
  by_cases a : 0 ≤ n
  · by_cases b : n < L.n
    · have sp := h.sp n a b
      by_cases c : L.sp n < 0
      · rw [if_pos ⟨a, b, c⟩]
        simp (disch := omega) only [bcd, true_and, and_true, and_self, if_true, if_false, ite_true, ite_false, reduceIte, Int.reduceEq, Int.reduceNe, Int.reduceLT, Int.reduceLE, Int.reduceAdd, Int.reduceSub, Int.reduceMul, Int.reduceNeg, Int.reduceMod, Int.reduceDiv, Int.reduceToNat, Nat.reduceAdd, Nat.reduceLeDiff, List.length_cons, List.length_nil, not_false_eq_true, not_true_eq_false, ne_eq, or_false, false_or, or_self, false_and, and_false, or_true, true_or, ite_self, Int.add_sub_cancel, Int.sub_add_cancel, b_lc1, b_lc2, b_lc3, b_lc4, b_lc5, up_eq, up_ei, up_n1, up_n2, W32i, W8i, W16i, W64i, if_ps, if_ng, and_tr, fil_n1, fil_in, fil_out, le_tt, le_ff, lt_tt, lt_ff, eq_tt, eq_ff, M51, sz, sp]
      · rw [if_neg (fun x => c x.2.2)]
        simp (disch := omega) only [bcd, true_and, and_true, and_self, if_true, if_false, ite_true, ite_false, reduceIte, Int.reduceEq, Int.reduceNe, Int.reduceLT, Int.reduceLE, Int.reduceAdd, Int.reduceSub, Int.reduceMul, Int.reduceNeg, Int.reduceMod, Int.reduceDiv, Int.reduceToNat, Nat.reduceAdd, Nat.reduceLeDiff, List.length_cons, List.length_nil, not_false_eq_true, not_true_eq_false, ne_eq, or_false, false_or, or_self, false_and, and_false, or_true, true_or, ite_self, Int.add_sub_cancel, Int.sub_add_cancel, b_lc1, b_lc2, b_lc3, b_lc4, b_lc5, up_eq, up_ei, up_n1, up_n2, W32i, W8i, W16i, W64i, if_ps, if_ng, and_tr, fil_n1, fil_in, fil_out, le_tt, le_ff, lt_tt, lt_ff, eq_tt, eq_ff, M51, sz, sp]
    · rw [if_neg (fun x => b x.2.1)]
      simp (disch := omega) only [bcd, true_and, and_true, and_self, if_true, if_false, ite_true, ite_false, reduceIte, Int.reduceEq, Int.reduceNe, Int.reduceLT, Int.reduceLE, Int.reduceAdd, Int.reduceSub, Int.reduceMul, Int.reduceNeg, Int.reduceMod, Int.reduceDiv, Int.reduceToNat, Nat.reduceAdd, Nat.reduceLeDiff, List.length_cons, List.length_nil, not_false_eq_true, not_true_eq_false, ne_eq, or_false, false_or, or_self, false_and, and_false, or_true, true_or, ite_self, Int.add_sub_cancel, Int.sub_add_cancel, b_lc1, b_lc2, b_lc3, b_lc4, b_lc5, up_eq, up_ei, up_n1, up_n2, W32i, W8i, W16i, W64i, if_ps, if_ng, and_tr, fil_n1, fil_in, fil_out, le_tt, le_ff, lt_tt, lt_ff, eq_tt, eq_ff, M51, sz]
  · rw [if_neg (fun x => a x.1)]
    simp (disch := omega) only [bcd, true_and, and_true, and_self, if_true, if_false, ite_true, ite_false, reduceIte, Int.reduceEq, Int.reduceNe, Int.reduceLT, Int.reduceLE, Int.reduceAdd, Int.reduceSub, Int.reduceMul, Int.reduceNeg, Int.reduceMod, Int.reduceDiv, Int.reduceToNat, Nat.reduceAdd, Nat.reduceLeDiff, List.length_cons, List.length_nil, not_false_eq_true, not_true_eq_false, ne_eq, or_false, false_or, or_self, false_and, and_false, or_true, true_or, ite_self, Int.add_sub_cancel, Int.sub_add_cancel, b_lc1, b_lc2, b_lc3, b_lc4, b_lc5, up_eq, up_ei, up_n1, up_n2, W32i, W8i, W16i, W64i, if_ps, if_ng, and_tr, fil_n1, fil_in, fil_out, le_tt, le_ff, lt_tt, lt_ff, eq_tt, eq_ff, M51, sz]
