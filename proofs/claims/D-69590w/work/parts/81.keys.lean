-- uses: 68a
/-! kinds in order: rows of kinds, and what they hold -/
theorem zuns_e {x : Int} (h : zLong x) : zuns x = if 0 ≤ x then x - 9223372036854775808 else x + 9223372036854775808 := by
  unfold zLong at h
  unfold zuns w64
  rw [Int.bmod_def]
  (repeat' split) <;> omega
theorem zuns_inj {x y : Int} (h : zLong x) (g : zLong y) (e : zuns x = zuns y) : x = y := by
  rw [zuns_e h, zuns_e g] at e
  unfold zLong at h g
  (repeat' split at e) <;> omega
theorem zltK_tr {a b c d e f : Int} (h : zltK a b c d) (g : zltK c d e f) : zltK a b e f := by
  unfold zltK at *
  omega
theorem zltK_ir {a b : Int} (h : zltK a b a b) : False := by unfold zltK at h; omega
theorem zltK_as {a b c d : Int} (h : zltK a b c d) (g : zltK c d a b) : False := zltK_ir (zltK_tr h g)
theorem zltK_3 {a b c d : Int} (hb : zLong b) (hd : zLong d) : zltK a b c d ∨ (a = c ∧ b = d) ∨ zltK c d a b := by
  unfold zltK
  by_cases q : zuns b = zuns d
  · have := zuns_inj hb hd q; omega
  · omega
def KS (n : Int) (P N : Int → Int) : Prop := (0 ≤ n) ∧ (∀ i, 0 ≤ i → i < n → 0 ≤ P i ∧ P i < 65536) ∧ (∀ i, 0 ≤ i → i < n → zLong (N i)) ∧ (∀ i j, 0 ≤ i → i < j → j < n → zltK (P i) (N i) (P j) (N j))
theorem KS.mk1 {n : Int} {P N : Int → Int} (n0 : 0 ≤ n) (po : ∀ i, 0 ≤ i → i < n → 0 ≤ P i ∧ P i < 65536) (na : ∀ i, 0 ≤ i → i < n → zLong (N i)) (inc : ∀ i j, 0 ≤ i → i < j → j < n → zltK (P i) (N i) (P j) (N j)) : KS n P N := by unfold KS; exact ⟨n0, po, na, inc⟩
theorem KS.n0 {n : Int} {P N : Int → Int} (h : KS n P N) : 0 ≤ n := by unfold KS at h; exact h.1
theorem KS.po {n : Int} {P N : Int → Int} (h : KS n P N) : ∀ i, 0 ≤ i → i < n → 0 ≤ P i ∧ P i < 65536 := by unfold KS at h; exact h.2.1
theorem KS.na {n : Int} {P N : Int → Int} (h : KS n P N) : ∀ i, 0 ≤ i → i < n → zLong (N i) := by unfold KS at h; exact h.2.2.1
theorem KS.inc {n : Int} {P N : Int → Int} (h : KS n P N) : ∀ i j, 0 ≤ i → i < j → j < n → zltK (P i) (N i) (P j) (N j) := by unfold KS at h; exact h.2.2.2
def RP (n : Int) (P N A : Int → Int) (g : Int → Int → Int) : Prop := (∀ i, 0 ≤ i → i < n → g (P i) (N i) = A i) ∧ (∀ p m, (∀ i, 0 ≤ i → i < n → ¬ (P i = p ∧ N i = m)) → g p m = 0)
theorem RP.mk1 {n : Int} {P N A : Int → Int} {g : Int → Int → Int} (at1 : ∀ i, 0 ≤ i → i < n → g (P i) (N i) = A i) (no1 : ∀ p m, (∀ i, 0 ≤ i → i < n → ¬ (P i = p ∧ N i = m)) → g p m = 0) : RP n P N A g := by unfold RP; exact ⟨at1, no1⟩
theorem RP.at1 {n : Int} {P N A : Int → Int} {g : Int → Int → Int} (h : RP n P N A g) : ∀ i, 0 ≤ i → i < n → g (P i) (N i) = A i := by unfold RP at h; exact h.1
theorem RP.no1 {n : Int} {P N A : Int → Int} {g : Int → Int → Int} (h : RP n P N A g) : ∀ p m, (∀ i, 0 ≤ i → i < n → ¬ (P i = p ∧ N i = m)) → g p m = 0 := by unfold RP at h; exact h.2
/-- the first place that is not below a kind -/
def KP (n : Int) (P N : Int → Int) (p m k : Int) : Prop := (0 ≤ k) ∧ (k ≤ n) ∧ (∀ i, 0 ≤ i → i < k → zltK (P i) (N i) p m) ∧ (∀ i, k ≤ i → i < n → ¬ zltK (P i) (N i) p m)
theorem KP.mk1 {n : Int} {P N : Int → Int} {p m k : Int} (k0 : 0 ≤ k) (k1 : k ≤ n) (lo : ∀ i, 0 ≤ i → i < k → zltK (P i) (N i) p m) (hi : ∀ i, k ≤ i → i < n → ¬ zltK (P i) (N i) p m) : KP n P N p m k := by unfold KP; exact ⟨k0, k1, lo, hi⟩
theorem KP.k0 {n : Int} {P N : Int → Int} {p m k : Int} (h : KP n P N p m k) : 0 ≤ k := by unfold KP at h; exact h.1
theorem KP.k1 {n : Int} {P N : Int → Int} {p m k : Int} (h : KP n P N p m k) : k ≤ n := by unfold KP at h; exact h.2.1
theorem KP.lo {n : Int} {P N : Int → Int} {p m k : Int} (h : KP n P N p m k) : ∀ i, 0 ≤ i → i < k → zltK (P i) (N i) p m := by unfold KP at h; exact h.2.2.1
theorem KP.hi {n : Int} {P N : Int → Int} {p m k : Int} (h : KP n P N p m k) : ∀ i, k ≤ i → i < n → ¬ zltK (P i) (N i) p m := by unfold KP at h; exact h.2.2.2
def gup (g : Int → Int → Int) (p m v : Int) : Int → Int → Int := fun q w => if q = p ∧ w = m then v else g q w
def gad (g : Int → Int → Int) (p m v : Int) : Int → Int → Int := fun q w => g q w + (if q = p ∧ w = m then v else 0)
theorem gad_up (g : Int → Int → Int) (p m v : Int) : gad g p m v = gup g p m (g p m + v) := by
  funext q w
  unfold gad gup
  split
  · rename_i h; rw [h.1, h.2]
  · omega
/-- a kind that is not at its place is nowhere -/
theorem KP.no {n : Int} {P N : Int → Int} {p m k : Int} (h : KP n P N p m k) (K : KS n P N) (hm : zLong m) (q : ¬ (k < n ∧ P k = p ∧ N k = m)) : ∀ i, 0 ≤ i → i < n → ¬ (P i = p ∧ N i = m) := by
  intro i i0 i1 e
  by_cases c : i < k
  · have := h.lo i i0 c
    rw [e.1, e.2] at this
    exact zltK_ir this
  · by_cases d : i = k
    · subst d; exact q ⟨i1, e⟩
    · have a := K.inc k i h.k0 (by omega) i1
      have b := h.hi k (by omega) (by omega)
      rw [e.1, e.2] at a
      exact b a
theorem KP.gt {n : Int} {P N : Int → Int} {p m k : Int} (h : KP n P N p m k) (K : KS n P N) (hm : zLong m) (q : ¬ (k < n ∧ P k = p ∧ N k = m)) : ∀ i, k ≤ i → i < n → zltK p m (P i) (N i) := by
  intro i i0 i1
  have k0 := h.k0
  have a := h.hi i i0 i1
  have b := h.no K hm q i (by omega) i1
  rcases zltK_3 (a := P i) (b := N i) (c := p) (d := m) (K.na i (by omega) i1) hm with x | x | x
  · exact absurd x a
  · exact absurd x b
  · exact x
def zins (P : Int → Int) (k x : Int) : Int → Int := fun i => if i < k then P i else if i = k then x else P (i - 1)
def zrem (P : Int → Int) (k : Int) : Int → Int := fun i => if i < k then P i else P (i + 1)
theorem KS.ins {n : Int} {P N P' N' : Int → Int} {p m k : Int} (K : KS n P N) (h : KP n P N p m k) (hp : 0 ≤ p ∧ p < 65536) (hm : zLong m) (q : ¬ (k < n ∧ P k = p ∧ N k = m)) (eP : ∀ i, 0 ≤ i → i < n + 1 → P' i = zins P k p i) (eN : ∀ i, 0 ≤ i → i < n + 1 → N' i = zins N k m i) : KS (n + 1) P' N' := by
  have k0 := h.k0
  have k1 := h.k1
  have gt := h.gt K hm q
  apply KS.mk1
  case n0 => have := K.n0; omega
  case po =>
    intro i a b
    rw [eP i a b]; unfold zins
    by_cases c : i < k
    · rw [if_pos c]; exact K.po i a (by omega)
    · rw [if_neg c]
      by_cases d : i = k
      · rw [if_pos d]; exact hp
      · rw [if_neg d]; exact K.po (i - 1) (by omega) (by omega)
  case na =>
    intro i a b
    rw [eN i a b]; unfold zins
    by_cases c : i < k
    · rw [if_pos c]; exact K.na i a (by omega)
    · rw [if_neg c]
      by_cases d : i = k
      · rw [if_pos d]; exact hm
      · rw [if_neg d]; exact K.na (i - 1) (by omega) (by omega)
  case inc =>
    intro i j a b c
    rw [eP i a (by omega), eN i a (by omega), eP j (by omega) c, eN j (by omega) c]; unfold zins
    by_cases d : j < k
    · rw [if_pos (by omega : i < k), if_pos (by omega : i < k), if_pos d, if_pos d]
      exact K.inc i j a b (by omega)
    · rw [if_neg d, if_neg d]
      by_cases e : j = k
      · rw [if_pos e, if_pos e, if_pos (by omega : i < k), if_pos (by omega : i < k)]
        exact h.lo i a (by omega)
      · rw [if_neg e, if_neg e]
        by_cases f : i < k
        · rw [if_pos f, if_pos f]
          exact K.inc i (j - 1) a (by omega) (by omega)
        · rw [if_neg f, if_neg f]
          by_cases g : i = k
          · rw [if_pos g, if_pos g]
            exact gt (j - 1) (by omega) (by omega)
          · rw [if_neg g, if_neg g]
            exact K.inc (i - 1) (j - 1) (by omega) (by omega) (by omega)
theorem RP.ins {n : Int} {P N A P' N' A' : Int → Int} {g : Int → Int → Int} {p m k v : Int} (K : KS n P N) (R : RP n P N A g) (h : KP n P N p m k) (hm : zLong m) (q : ¬ (k < n ∧ P k = p ∧ N k = m)) (eP : ∀ i, 0 ≤ i → i < n + 1 → P' i = zins P k p i) (eN : ∀ i, 0 ≤ i → i < n + 1 → N' i = zins N k m i) (eA : ∀ i, 0 ≤ i → i < n + 1 → A' i = zins A k v i) : RP (n + 1) P' N' A' (gup g p m v) := by
  have k0 := h.k0
  have k1 := h.k1
  have no := h.no K hm q
  apply RP.mk1
  case at1 =>
    intro i a b
    rw [eP i a b, eN i a b, eA i a b]; unfold zins gup
    by_cases c : i < k
    · simp only [if_pos c]
      rw [if_neg (no i a (by omega))]
      exact R.at1 i a (by omega)
    · simp only [if_neg c]
      by_cases d : i = k
      · simp [d]
      · simp only [if_neg d]
        rw [if_neg (no (i - 1) (by omega) (by omega))]
        exact R.at1 (i - 1) (by omega) (by omega)
  case no1 =>
    intro p' m' H
    unfold gup
    have Hk := H k k0 (by omega)
    rw [eP k k0 (by omega), eN k k0 (by omega)] at Hk
    unfold zins at Hk
    simp only [if_neg (show ¬ k < k by omega), if_true] at Hk
    rw [if_neg (fun x => Hk ⟨x.1.symm, x.2.symm⟩)]
    apply R.no1
    intro i a b
    by_cases c : i < k
    · have := H i a (by omega)
      rw [eP i a (by omega), eN i a (by omega)] at this
      unfold zins at this
      simpa only [if_pos c] using this
    · have := H (i + 1) (by omega) (by omega)
      rw [eP (i + 1) (by omega) (by omega), eN (i + 1) (by omega) (by omega)] at this
      unfold zins at this
      simpa only [if_neg (show ¬ i + 1 < k by omega), if_neg (show ¬ i + 1 = k by omega), Int.add_sub_cancel] using this
theorem KS.cg {n : Int} {P N P' N' : Int → Int} (K : KS n P N) (eP : ∀ i, 0 ≤ i → i < n → P' i = P i) (eN : ∀ i, 0 ≤ i → i < n → N' i = N i) : KS n P' N' := by
  apply KS.mk1
  case n0 => exact K.n0
  case po => intro i a b; rw [eP i a b]; exact K.po i a b
  case na => intro i a b; rw [eN i a b]; exact K.na i a b
  case inc => intro i j a b c; rw [eP i a (by omega), eN i a (by omega), eP j (by omega) c, eN j (by omega) c]; exact K.inc i j a b c
theorem RP.cg {n : Int} {P N A P' N' A' : Int → Int} {g : Int → Int → Int} (R : RP n P N A g) (eP : ∀ i, 0 ≤ i → i < n → P' i = P i) (eN : ∀ i, 0 ≤ i → i < n → N' i = N i) (eA : ∀ i, 0 ≤ i → i < n → A' i = A i) : RP n P' N' A' g := by
  apply RP.mk1
  case at1 => intro i a b; rw [eP i a b, eN i a b, eA i a b]; exact R.at1 i a b
  case no1 =>
    intro p m H
    apply R.no1
    intro i a b
    have := H i a b
    rw [eP i a b, eN i a b] at this
    exact this
theorem KS.ne {n : Int} {P N : Int → Int} (K : KS n P N) {i j : Int} (i0 : 0 ≤ i) (i1 : i < n) (j0 : 0 ≤ j) (j1 : j < n) (e1 : P i = P j) (e2 : N i = N j) : i = j := by
  by_cases a : i < j
  · have := K.inc i j i0 a j1
    rw [e1, e2] at this; exact (zltK_ir this).elim
  · by_cases b : j < i
    · have := K.inc j i j0 b i1
      rw [e1, e2] at this; exact (zltK_ir this).elim
    · omega
theorem RP.upd {n : Int} {P N A A' : Int → Int} {g : Int → Int → Int} {k v : Int} (K : KS n P N) (R : RP n P N A g) (k0 : 0 ≤ k) (k1 : k < n) (eA : ∀ i, 0 ≤ i → i < n → A' i = if i = k then v else A i) : RP n P N A' (gup g (P k) (N k) v) := by
  apply RP.mk1
  case at1 =>
    intro i a b
    rw [eA i a b]; unfold gup
    by_cases c : i = k
    · subst c; simp
    · rw [if_neg c, if_neg (fun x => c (K.ne a b k0 k1 x.1 x.2))]
      exact R.at1 i a b
  case no1 =>
    intro p m H
    unfold gup
    rw [if_neg (fun x => H k k0 k1 ⟨x.1.symm, x.2.symm⟩)]
    exact R.no1 p m H
theorem KS.rem {n : Int} {P N P' N' : Int → Int} {k : Int} (K : KS n P N) (k0 : 0 ≤ k) (k1 : k < n) (eP : ∀ i, 0 ≤ i → i < n - 1 → P' i = zrem P k i) (eN : ∀ i, 0 ≤ i → i < n - 1 → N' i = zrem N k i) : KS (n - 1) P' N' := by
  apply KS.mk1
  case n0 => omega
  case po =>
    intro i a b
    rw [eP i a b]; unfold zrem
    split
    · exact K.po i a (by omega)
    · exact K.po (i + 1) (by omega) (by omega)
  case na =>
    intro i a b
    rw [eN i a b]; unfold zrem
    split
    · exact K.na i a (by omega)
    · exact K.na (i + 1) (by omega) (by omega)
  case inc =>
    intro i j a b c
    rw [eP i a (by omega), eN i a (by omega), eP j (by omega) c, eN j (by omega) c]; unfold zrem
    (repeat' split) <;> first | omega | exact K.inc _ _ (by omega) (by omega) (by omega)
theorem RP.rem {n : Int} {P N A P' N' A' : Int → Int} {g : Int → Int → Int} {k : Int} (K : KS n P N) (R : RP n P N A g) (k0 : 0 ≤ k) (k1 : k < n) (eP : ∀ i, 0 ≤ i → i < n - 1 → P' i = zrem P k i) (eN : ∀ i, 0 ≤ i → i < n - 1 → N' i = zrem N k i) (eA : ∀ i, 0 ≤ i → i < n - 1 → A' i = zrem A k i) : RP (n - 1) P' N' A' (gup g (P k) (N k) 0) := by
  apply RP.mk1
  case at1 =>
    intro i a b
    rw [eP i a b, eN i a b, eA i a b]; unfold zrem gup
    by_cases c : i < k
    · simp only [if_pos c]
      rw [if_neg (fun x => by have := K.ne a (by omega) k0 k1 x.1 x.2; omega)]
      exact R.at1 i a (by omega)
    · simp only [if_neg c]
      rw [if_neg (fun x => by have := K.ne (by omega) (by omega) k0 k1 x.1 x.2; omega)]
      exact R.at1 (i + 1) (by omega) (by omega)
  case no1 =>
    intro p m H
    unfold gup
    split
    · rfl
    · rename_i z
      apply R.no1
      intro i a b e
      by_cases c : i = k
      · subst c; exact z ⟨e.1.symm, e.2.symm⟩
      · by_cases d : i < k
        · apply H i a (by omega)
          rw [eP i a (by omega), eN i a (by omega)]; unfold zrem
          simpa only [if_pos d] using e
        · apply H (i - 1) (by omega) (by omega)
          rw [eP (i - 1) (by omega) (by omega), eN (i - 1) (by omega) (by omega)]; unfold zrem
          simpa only [if_neg (show ¬ i - 1 < k by omega), Int.sub_add_cancel] using e
/-- rows in order that hold the same, without zeros, are the same -/
theorem KS_uni {n n' : Int} {P N A P' N' A' : Int → Int} {g : Int → Int → Int} (K : KS n P N) (K' : KS n' P' N') (R : RP n P N A g) (R' : RP n' P' N' A' g) (z : ∀ i, 0 ≤ i → i < n → A i ≠ 0) (z' : ∀ i, 0 ≤ i → i < n' → A' i ≠ 0) : n = n' ∧ ∀ i, 0 ≤ i → i < n → P i = P' i ∧ N i = N' i ∧ A i = A' i := by
  have ex : ∀ i, 0 ≤ i → i < n → ∃ j, 0 ≤ j ∧ j < n' ∧ P' j = P i ∧ N' j = N i := by
    intro i a b
    apply Classical.byContradiction
    intro H
    have := R'.no1 (P i) (N i) (fun j c d e => H ⟨j, c, d, e⟩)
    rw [R.at1 i a b] at this
    exact z i a b this
  have ex' : ∀ i, 0 ≤ i → i < n' → ∃ j, 0 ≤ j ∧ j < n ∧ P j = P' i ∧ N j = N' i := by
    intro i a b
    apply Classical.byContradiction
    intro H
    have := R.no1 (P' i) (N' i) (fun j c d e => H ⟨j, c, d, e⟩)
    rw [R'.at1 i a b] at this
    exact z' i a b this
  have st : ∀ (c : Nat) (i : Int), 0 ≤ i → i < c → i < n → i < n' ∧ P i = P' i ∧ N i = N' i := by
    intro c
    induction c with
    | zero => intro i _ _; omega
    | succ c ih =>
      intro i a b d
      obtain ⟨j, j0, j1, e1, e2⟩ := ex i a d
      have ji : i ≤ j := by
        by_cases q : i ≤ j
        · exact q
        · obtain ⟨_, y1, y2⟩ := ih j j0 (by omega) (by omega)
          have := K.ne a d j0 (by omega) (by rw [y1, e1]) (by rw [y2, e2])
          omega
      by_cases q : j = i
      · subst q; exact ⟨j1, e1.symm, e2.symm⟩
      · obtain ⟨l, l0, l1, f1, f2⟩ := ex' i a (by omega)
        have li : i ≤ l := by
          by_cases q : i ≤ l
          · exact q
          · obtain ⟨y0, y1, y2⟩ := ih l l0 (by omega) (by omega)
            have := K'.ne a (by omega) l0 y0 (by rw [← y1, f1]) (by rw [← y2, f2])
            omega
        have x1 := K'.inc i j a (by omega) j1
        rw [e1, e2] at x1
        by_cases r : l = i
        · subst r; rw [f1, f2] at x1; exact (zltK_ir x1).elim
        · have x2 := K.inc i l a (by omega) l1
          rw [f1, f2] at x2
          exact (zltK_as x1 x2).elim
  have nn : n = n' := by
    have a := K.n0
    have b := K'.n0
    by_cases q : n < n'
    · obtain ⟨j, j0, j1, e1, e2⟩ := ex' n a q
      obtain ⟨y0, y1, y2⟩ := st (j + 1).toNat j j0 (by omega) j1
      have := K'.ne a q j0 y0 (by rw [← y1, e1]) (by rw [← y2, e2])
      omega
    · by_cases r : n' < n
      · have := (st (n' + 1).toNat n' b (by omega) r).1
        omega
      · omega
  refine ⟨nn, fun i a b => ?_⟩
  obtain ⟨y0, y1, y2⟩ := st (i + 1).toNat i a (by omega) b
  refine ⟨y1, y2, ?_⟩
  rw [← R.at1 i a b, ← R'.at1 i a y0, y1, y2]
