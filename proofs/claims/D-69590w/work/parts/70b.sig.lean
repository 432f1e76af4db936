-- uses: 70
theorem wi_ints {f : F} {l : Int} (v : fval 1 f) (l0 : 0 ≤ l) (l1 : l < fsize f) (h2 : nf f l = 2) : ∀ k : Nat, (k : Int) ≤ nc f l → (∀ j : Nat, j < k → nf f (wi f l j) = 3) → wi f l k = l + 1 + k := by
  intro k
  induction k with
  | zero => intro _ _; rw [wi]; simp
  | succ k ih =>
    intro hk h
    obtain ⟨a1, a2, a3⟩ := wi_l v l0 l1 h2 k (by omega)
    have e := ih (by omega) (fun j hj => h j (by omega))
    have n := (nW_of f 1 (wi f l k) v (by omega) a2).l1 (by have := h k (by omega); omega)
    rw [wi, n, e]
    omega
theorem wi_ints2 {f : F} {l : Int} (v : fval 1 f) (l0 : 0 ≤ l) (l1 : l < fsize f) (h2 : nf f l = 2) : ∀ k : Nat, (k : Int) ≤ nc f l → (∀ j : Nat, j < k → nf f (l + 1 + j) = 3) → wi f l k = l + 1 + k := by
  intro k
  induction k with
  | zero => intro _ _; rw [wi]; simp
  | succ k ih =>
    intro hk h
    obtain ⟨a1, a2, a3⟩ := wi_l v l0 l1 h2 k (by omega)
    have e := ih (by omega) (fun j hj => h j (by omega))
    have n := (nW_of f 1 (wi f l k) v (by omega) a2).l1 (by rw [e]; have := h k (by omega); omega)
    rw [wi, n, e]
    omega
/-- both ways of asking for signers -/
theorem sig_eq {f : F} {l : Int} (v : fval 1 f) (l0 : 0 ≤ l) (l1 : l < fsize f) (h2 : nf f l = 2) (cb : 0 ≤ nc f l) : zall (pSig f l) (nc f l).toNat 0 = (zall (pInt f l 0 255) (nc f l).toNat 0 && zall (pRis f l) (nc f l - 1).toNat 1) := by
  rw [Bool.eq_iff_iff, Bool.and_eq_true, zall_iff, zall_iff, zall_iff]
  constructor
  · intro h
    have hs : ∀ i : Nat, (i : Int) < nc f l → cI f (l + 1 + i) (if i = 0 then 0 else nt f (l + i) + 1) 255 := fun i hi => of_decide_eq_true (h i (by omega) (by omega))
    have wE : ∀ i : Nat, (i : Int) < nc f l → wi f l i = l + 1 + i := fun i hi => wi_ints2 v l0 l1 h2 i (by omega) (fun j hj => (hs j (by omega)).1)
    have pos : ∀ i : Nat, (i : Int) < nc f l → 0 ≤ nt f (l + 1 + i) := by
      intro i
      induction i with
      | zero => intro hi; have := (hs 0 hi).2.1; simpa using this
      | succ i ih =>
        intro hi
        have a := ih (by omega)
        have b := (hs (i + 1) hi).2.1
        rw [if_neg (by omega), show l + ((i + 1 : Nat) : Int) = l + 1 + i by omega] at b
        omega
    constructor
    · intro i _ hi
      apply decide_eq_true
      rw [wE i (by omega)]
      exact ⟨(hs i (by omega)).1, pos i (by omega), (hs i (by omega)).2.2⟩
    · intro i h1 hi
      apply decide_eq_true
      rw [wE i (by omega), wE (i - 1) (by omega)]
      have b := (hs i (by omega)).2.1
      rw [if_neg (by omega)] at b
      rw [show l + 1 + ((i - 1 : Nat) : Int) = l + i by omega]
      omega
  · rintro ⟨h, g⟩ i _ hi
    have hI : ∀ i : Nat, (i : Int) < nc f l → cI f (wi f l i) 0 255 := fun i hi => of_decide_eq_true (h i (by omega) (by omega))
    have wE : ∀ i : Nat, (i : Int) < nc f l → wi f l i = l + 1 + i := fun i hi => wi_ints v l0 l1 h2 i (by omega) (fun j hj => (hI j (by omega)).1)
    apply decide_eq_true
    have a := hI i (by omega)
    rw [wE i (by omega)] at a
    refine ⟨a.1, ?_, a.2.2⟩
    by_cases z : i = 0
    · rw [if_pos z]; exact a.2.1
    · rw [if_neg z]
      have b : nt f (wi f l (i - 1)) < nt f (wi f l i) := of_decide_eq_true (g i (by omega) (by omega))
      rw [wE i (by omega), wE (i - 1) (by omega), show l + 1 + ((i - 1 : Nat) : Int) = l + i by omega] at b
      omega
