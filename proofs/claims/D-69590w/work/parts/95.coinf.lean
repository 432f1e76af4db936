-- uses: 94
/-! the coins of a list of a transaction -/
def CF (f : F) (l m sc : Int) (i : Nat) : Prop := (0 < wi f l i ∧ wi f l i + 3 < fsize f) ∧ (nf f (wi f l i + 1) = 3) ∧ (nf f (wi f l i + 2) = 3) ∧ (nf f (wi f l i + 3) = 3) ∧ (m ≤ nt f (wi f l i + 1) ∧ nt f (wi f l i + 1) ≤ sc) ∧ (zLong (nt f (wi f l i + 2))) ∧ (nt f (wi f l i + 3) ≠ 0 ∧ -4611686018427387904 ≤ nt f (wi f l i + 3) ∧ nt f (wi f l i + 3) ≤ 4611686018427387904) ∧ (m = 0 → 1 ≤ nt f (wi f l i + 3)) ∧ (nt f (wi f l i + 1) = 0 → nt f (wi f l i + 2) = 0) ∧ (∀ j : Nat, j + 1 = i → zltK (nt f (wi f l j + 1)) (nt f (wi f l j + 2)) (nt f (wi f l i + 1)) (nt f (wi f l i + 2)))
theorem CF.mk1 {f : F} {l m sc : Int} {i : Nat} (c0 : 0 < wi f l i ∧ wi f l i + 3 < fsize f) (n1 : nf f (wi f l i + 1) = 3) (n2 : nf f (wi f l i + 2) = 3) (n3 : nf f (wi f l i + 3) = 3) (po : m ≤ nt f (wi f l i + 1) ∧ nt f (wi f l i + 1) ≤ sc) (na : zLong (nt f (wi f l i + 2))) (am : nt f (wi f l i + 3) ≠ 0 ∧ -4611686018427387904 ≤ nt f (wi f l i + 3) ∧ nt f (wi f l i + 3) ≤ 4611686018427387904) (a0 : m = 0 → 1 ≤ nt f (wi f l i + 3)) (p0 : nt f (wi f l i + 1) = 0 → nt f (wi f l i + 2) = 0) (lt : ∀ j : Nat, j + 1 = i → zltK (nt f (wi f l j + 1)) (nt f (wi f l j + 2)) (nt f (wi f l i + 1)) (nt f (wi f l i + 2))) : CF f l m sc i := by unfold CF; exact ⟨c0, n1, n2, n3, po, na, am, a0, p0, lt⟩
theorem CF.c0 {f : F} {l m sc : Int} {i : Nat} (h : CF f l m sc i) : 0 < wi f l i ∧ wi f l i + 3 < fsize f := by unfold CF at h; exact h.1
theorem CF.n1 {f : F} {l m sc : Int} {i : Nat} (h : CF f l m sc i) : nf f (wi f l i + 1) = 3 := by unfold CF at h; exact h.2.1
theorem CF.n2 {f : F} {l m sc : Int} {i : Nat} (h : CF f l m sc i) : nf f (wi f l i + 2) = 3 := by unfold CF at h; exact h.2.2.1
theorem CF.n3 {f : F} {l m sc : Int} {i : Nat} (h : CF f l m sc i) : nf f (wi f l i + 3) = 3 := by unfold CF at h; exact h.2.2.2.1
theorem CF.po {f : F} {l m sc : Int} {i : Nat} (h : CF f l m sc i) : m ≤ nt f (wi f l i + 1) ∧ nt f (wi f l i + 1) ≤ sc := by unfold CF at h; exact h.2.2.2.2.1
theorem CF.na {f : F} {l m sc : Int} {i : Nat} (h : CF f l m sc i) : zLong (nt f (wi f l i + 2)) := by unfold CF at h; exact h.2.2.2.2.2.1
theorem CF.am {f : F} {l m sc : Int} {i : Nat} (h : CF f l m sc i) : nt f (wi f l i + 3) ≠ 0 ∧ -4611686018427387904 ≤ nt f (wi f l i + 3) ∧ nt f (wi f l i + 3) ≤ 4611686018427387904 := by unfold CF at h; exact h.2.2.2.2.2.2.1
theorem CF.a0 {f : F} {l m sc : Int} {i : Nat} (h : CF f l m sc i) : m = 0 → 1 ≤ nt f (wi f l i + 3) := by unfold CF at h; exact h.2.2.2.2.2.2.2.1
theorem CF.p0 {f : F} {l m sc : Int} {i : Nat} (h : CF f l m sc i) : nt f (wi f l i + 1) = 0 → nt f (wi f l i + 2) = 0 := by unfold CF at h; exact h.2.2.2.2.2.2.2.2.1
theorem CF.lt {f : F} {l m sc : Int} {i : Nat} (h : CF f l m sc i) : ∀ j : Nat, j + 1 = i → zltK (nt f (wi f l j + 1)) (nt f (wi f l j + 2)) (nt f (wi f l i + 1)) (nt f (wi f l i + 2)) := by unfold CF at h; exact h.2.2.2.2.2.2.2.2.2
theorem CF_of {f : F} {l m sc : Int} {i : Nat} (v : fval 1 f) (l0 : 0 ≤ l) (l1 : l < fsize f) (h2 : nf f l = 2) (hi : (i : Int) < nc f l) (hm : m = 0 ∨ m = 1) (h : pCos f l m sc i = true) : CF f l m sc i := by
  obtain ⟨a1, a2, a3⟩ := wi_l v l0 l1 h2 i hi
  obtain ⟨⟨b1, b2, b3, b4⟩, c1, c2, c3, c4, c5⟩ := of_decide_eq_true h
  have nk := nk_in v (by omega) a2 (Or.inr b1.1) rfl
  have b1' := b1.2.1
  apply CF.mk1
  case c0 => omega
  case n1 => exact b2.1
  case n2 => exact b3
  case n3 => exact b4
  case po =>
    have := b2.2
    rcases hm with rfl | rfl
    · simp at this; omega
    · simp at this; omega
  case na => exact ((nW_of f 1 (wi f l i + 2) v (by omega) (by omega)).t3 b3).1
  case am =>
    rcases hm with rfl | rfl
    · have := c3 rfl; omega
    · have := c2 rfl; omega
  case a0 => exact c3
  case p0 => intro q; rcases c1 with c1 | c1
             · omega
             · exact c1
  case lt =>
    intro j hj
    subst hj
    have e1 : lpo f l (j + 1) = nt f (wi f l j + 1) := rfl
    have e2 : lna f l (j + 1) = nt f (wi f l j + 2) := rfl
    rw [e1, e2] at c5
    unfold zltK
    omega
theorem kF_lt {f : F} {l m sc n : Int} (h : ∀ i : Nat, (i : Int) < n → CF f l m sc i) : ∀ (d i : Nat), (i : Int) + d + 1 < n → zltK (nt f (wi f l i + 1)) (nt f (wi f l i + 2)) (nt f (wi f l (i + d + 1) + 1)) (nt f (wi f l (i + d + 1) + 2)) := by
  intro d
  induction d with
  | zero => intro i hi; exact (h (i + 1) (by omega)).lt i rfl
  | succ d ih =>
    intro i hi
    exact zltK_tr (ih i (by omega)) ((h (i + (d + 1) + 1) (by omega)).lt (i + d + 1) (by omega))
theorem kF_ne {f : F} {l m sc n : Int} (h : ∀ i : Nat, (i : Int) < n → CF f l m sc i) (i j : Nat) (a : i < j) (b : (j : Int) < n) : ¬ ((kF f l i).1 = (kF f l j).1 ∧ (kF f l i).2.1 = (kF f l j).2.1) := by
  intro e
  have := kF_lt h (j - i - 1) i (by omega)
  rw [show i + (j - i - 1) + 1 = j by omega] at this
  unfold kF at e
  simp only at e
  rw [e.1, e.2] at this
  exact zltK_ir this
theorem TF.mc {f : F} {sc : Int} (t : TF f sc) (i : Nat) (hi : (i : Int) < nc f (w0 f 5)) : CF f (w0 f 5) 1 sc i := by
  have a := t.fd 5 (by omega)
  exact CF_of t.v (by omega) a.2 t.l5.1 hi (Or.inr rfl) (t.mnt i hi)
/-- an output's list of coins -/
def OF (f : F) (sc : Int) (n : Int) : Prop := (0 < n ∧ n < fsize f) ∧ (pOut f n sc) ∧ (nch f n = 3) ∧ (0 < wi f n 0 ∧ wi f n 0 < fsize f) ∧ (0 < wi f n 1 ∧ wi f n 1 < fsize f) ∧ (0 < wi f n 2 ∧ wi f n 2 < fsize f) ∧ (cL f (wi f n 1) 1 8) ∧ (∀ i : Nat, (i : Int) < nc f (wi f n 1) → CF f (wi f n 1) 0 sc i)
theorem OF.mk1 {f : F} {sc : Int} {n : Int} (n0 : 0 < n ∧ n < fsize f) (h : pOut f n sc) (nk : nch f n = 3) (a0 : 0 < wi f n 0 ∧ wi f n 0 < fsize f) (l0 : 0 < wi f n 1 ∧ wi f n 1 < fsize f) (d0 : 0 < wi f n 2 ∧ wi f n 2 < fsize f) (l2 : cL f (wi f n 1) 1 8) (co : ∀ i : Nat, (i : Int) < nc f (wi f n 1) → CF f (wi f n 1) 0 sc i) : OF f sc n := by unfold OF; exact ⟨n0, h, nk, a0, l0, d0, l2, co⟩
theorem OF.n0 {f : F} {sc : Int} {n : Int} (h : OF f sc n) : 0 < n ∧ n < fsize f := by unfold OF at h; exact h.1
theorem OF.h {f : F} {sc : Int} {n : Int} (h : OF f sc n) : pOut f n sc := by unfold OF at h; exact h.2.1
theorem OF.nk {f : F} {sc : Int} {n : Int} (h : OF f sc n) : nch f n = 3 := by unfold OF at h; exact h.2.2.1
theorem OF.a0 {f : F} {sc : Int} {n : Int} (h : OF f sc n) : 0 < wi f n 0 ∧ wi f n 0 < fsize f := by unfold OF at h; exact h.2.2.2.1
theorem OF.l0 {f : F} {sc : Int} {n : Int} (h : OF f sc n) : 0 < wi f n 1 ∧ wi f n 1 < fsize f := by unfold OF at h; exact h.2.2.2.2.1
theorem OF.d0 {f : F} {sc : Int} {n : Int} (h : OF f sc n) : 0 < wi f n 2 ∧ wi f n 2 < fsize f := by unfold OF at h; exact h.2.2.2.2.2.1
theorem OF.l2 {f : F} {sc : Int} {n : Int} (h : OF f sc n) : cL f (wi f n 1) 1 8 := by unfold OF at h; exact h.2.2.2.2.2.2.1
theorem OF.co {f : F} {sc : Int} {n : Int} (h : OF f sc n) : ∀ i : Nat, (i : Int) < nc f (wi f n 1) → CF f (wi f n 1) 0 sc i := by unfold OF at h; exact h.2.2.2.2.2.2.2
theorem TF.of {f : F} {sc : Int} (t : TF f sc) (i : Nat) (hi : (i : Int) < nc f (w0 f 2)) : OF f sc ((wi f (w0 f 2) i)) := by
  have a := t.fd 2 (by omega)
  have b := wi_l t.v (by omega) a.2 t.l2.1 i hi
  have p := t.out i hi
  obtain ⟨p1, p2, p3, p4, p5⟩ := p
  have c0 := wi_c t.v (by omega) b.2.1 p1.1 p1.2.2 0 (by omega)
  have c1 := wi_c t.v (by omega) b.2.1 p1.1 p1.2.2 1 (by omega)
  have c2 := wi_c t.v (by omega) b.2.1 p1.1 p1.2.2 2 (by omega)
  apply OF.mk1
  case n0 => omega
  case h => exact ⟨p1, p2, p3, p4, p5⟩
  case nk => exact c0.2.2
  case a0 => omega
  case l0 => omega
  case d0 => omega
  case l2 => exact p3
  case co =>
    intro j hj
    exact CF_of t.v (by omega) c1.2.1 p3.1 hj (Or.inl rfl) ((zall_iff _ _ _).mp p4 j (by omega) (by omega))
def gOut (f : F) : Nat → Int → Int → Int
  | 0 => g0
  | i + 1 => gacc (gOut f i) (kF f (wi f ((wi f (w0 f 2) i)) 1)) (nc f (wi f ((wi f (w0 f 2) i)) 1)).toNat
def mck (L : Led) (f : F) (i : Nat) : Bool := decide (nt f (wi f (w0 f 5) i + 3) < 0 ∨ L.tot (nt f (wi f (w0 f 5) i + 1)) (nt f (wi f (w0 f 5) i + 2)) ≤ 4611686018427387904 - nt f (wi f (w0 f 5) i + 3))
def gM (L : Led) (f : F) : Int → Int → Int := gacc (gIn L f (nc f (w0 f 0)).toNat) (kF f (w0 f 5)) (nc f (w0 f 5)).toNat
def gO (f : F) : Int → Int → Int := gad (gOut f (nc f (w0 f 2)).toNat) 0 0 ((nt f (w0 f 3)))
def bal (L : Led) (f : F) : Prop := zall (mck L f) (nc f (w0 f 5)).toNat 0 = true ∧ ∀ p m, gM L f p m = gO f p m
/-- inputs and what is minted, by kinds -/
theorem gM_b {L : Led} {f : F} {sc : Int} (t : TF f sc) (w : LW L) (th : there L f = true) (hc : zall (mck L f) (nc f (w0 f 5)).toNat 0 = true) (p m : Int) : gM L f p m ≤ 4611686018427387904 := by
  obtain ⟨t1, t2, t3, t4, t5⟩ := there_1 th
  have l0 := t.l0
  have l5 := t.l5
  have e := gIn_s w p m (nc f (w0 f 0)).toNat (fun j hj => t1 j (by omega))
  have b := sIn_b w p m (nc f (w0 f 0)).toNat (fun j hj => t1 j (by omega)) (fun j k x y => t2 j k x (by omega))
  have tb := w.totb' p m
  unfold gM
  rw [gacc_add, e]
  by_cases q : ∃ j : Nat, (j : Int) < nc f (w0 f 5) ∧ (kF f (w0 f 5) j).1 = p ∧ (kF f (w0 f 5) j).2.1 = m
  · obtain ⟨j, j1, j2, j3⟩ := q
    have g := gacc_at (k := kF f (w0 f 5)) (nc f (w0 f 5)).toNat j (fun i j a b => kF_ne (fun i hi => t.mc i hi) i j a (by omega)) (by omega)
    rw [j2, j3] at g
    rw [g]
    have c := of_decide_eq_true ((zall_iff _ _ _).mp hc j (by omega) (by omega))
    unfold kF at j2 j3 ⊢
    simp only at j2 j3 ⊢
    rw [j2, j3] at c
    omega
  · rw [gacc_no _ (fun i hi x => q ⟨i, by omega, x⟩)]
    omega
