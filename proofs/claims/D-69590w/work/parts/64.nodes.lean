-- uses: 63
/-! nodes by their numbers; what is within them -/
def nf (f : F) (i : Int) : Int := (fat f i).1
def nt (f : F) (i : Int) : Int := (fat f i).2.1
def nc (f : F) (i : Int) : Int := (fat f i).2.2.1
def ns (f : F) (i : Int) : Int := (fat f i).2.2.2
def nch (f : F) (i : Int) : Int := if nf f i = 1 then 2 * nc f i else if nf f i = 0 ∨ nf f i = 2 then nc f i else 0
def wi (f : F) (i : Int) : Nat → Int
  | 0 => i + 1
  | j + 1 => wi f i j + ns f (wi f i j)
theorem fat_0 (s : Nat) (fm tg : Int) (tx : List Int) (u : Unit) (ks r : F) : fat (.inner s (fm, tg, tx) u ks r) 0 = (fm, tg, zct fm tx ks, 1 + fsize ks) := by rw [fat, if_pos rfl]
theorem fat_k {s : Nat} {fm tg : Int} {tx : List Int} {u : Unit} {ks r : F} {i : Int} (h0 : 0 ≤ i) (h1 : i < fsize ks) : fat (.inner s (fm, tg, tx) u ks r) (1 + i) = fat ks i := by rw [fat, if_neg (by omega), if_pos (by omega), show 1 + i - 1 = i by omega]
theorem fat_r {s : Nat} {fm tg : Int} {tx : List Int} {u : Unit} {ks r : F} {i : Int} (h0 : 0 ≤ i) : fat (.inner s (fm, tg, tx) u ks r) (1 + fsize ks + i) = fat r i := by
  have := fsize0 ks
  rw [fat, if_neg (by omega), if_neg (by omega), show 1 + fsize ks + i - 1 - fsize ks = i by omega]
def nW (f : F) (i : Int) : Prop := (1 ≤ ns f i) ∧ (i + ns f i ≤ fsize f) ∧ (0 ≤ nf f i ∧ nf f i ≤ 4) ∧ (nf f i = 3 → zLong (nt f i) ∧ nc f i = 0) ∧ (nf f i = 4 → nt f i = 0 ∧ nc f i ≤ 64) ∧ (nf f i = 0 → 0 ≤ nt f i ∧ nt f i ≤ 127) ∧ (nf f i = 1 ∨ nf f i = 2 → nt f i = 0) ∧ (0 ≤ nc f i) ∧ (nf f i ≠ 4 → nch f i ≤ ns f i - 1) ∧ (3 ≤ nf f i → ns f i = 1)
theorem nW.mk1 {f : F} {i : Int} (s1 : 1 ≤ ns f i) (s2 : i + ns f i ≤ fsize f) (f0 : 0 ≤ nf f i ∧ nf f i ≤ 4) (t3 : nf f i = 3 → zLong (nt f i) ∧ nc f i = 0) (t4 : nf f i = 4 → nt f i = 0 ∧ nc f i ≤ 64) (t0 : nf f i = 0 → 0 ≤ nt f i ∧ nt f i ≤ 127) (t2 : nf f i = 1 ∨ nf f i = 2 → nt f i = 0) (c0 : 0 ≤ nc f i) (c1 : nf f i ≠ 4 → nch f i ≤ ns f i - 1) (l1 : 3 ≤ nf f i → ns f i = 1) : nW f i := by unfold nW; exact ⟨s1, s2, f0, t3, t4, t0, t2, c0, c1, l1⟩
theorem nW.s1 {f : F} {i : Int} (h : nW f i) : 1 ≤ ns f i := by unfold nW at h; exact h.1
theorem nW.s2 {f : F} {i : Int} (h : nW f i) : i + ns f i ≤ fsize f := by unfold nW at h; exact h.2.1
theorem nW.f0 {f : F} {i : Int} (h : nW f i) : 0 ≤ nf f i ∧ nf f i ≤ 4 := by unfold nW at h; exact h.2.2.1
theorem nW.t3 {f : F} {i : Int} (h : nW f i) : nf f i = 3 → zLong (nt f i) ∧ nc f i = 0 := by unfold nW at h; exact h.2.2.2.1
theorem nW.t4 {f : F} {i : Int} (h : nW f i) : nf f i = 4 → nt f i = 0 ∧ nc f i ≤ 64 := by unfold nW at h; exact h.2.2.2.2.1
theorem nW.t0 {f : F} {i : Int} (h : nW f i) : nf f i = 0 → 0 ≤ nt f i ∧ nt f i ≤ 127 := by unfold nW at h; exact h.2.2.2.2.2.1
theorem nW.t2 {f : F} {i : Int} (h : nW f i) : nf f i = 1 ∨ nf f i = 2 → nt f i = 0 := by unfold nW at h; exact h.2.2.2.2.2.2.1
theorem nW.c0 {f : F} {i : Int} (h : nW f i) : 0 ≤ nc f i := by unfold nW at h; exact h.2.2.2.2.2.2.2.1
theorem nW.c1 {f : F} {i : Int} (h : nW f i) : nf f i ≠ 4 → nch f i ≤ ns f i - 1 := by unfold nW at h; exact h.2.2.2.2.2.2.2.2.1
theorem nW.l1 {f : F} {i : Int} (h : nW f i) : 3 ≤ nf f i → ns f i = 1 := by unfold nW at h; exact h.2.2.2.2.2.2.2.2.2
theorem nW_of : ∀ (f : F) (lv i : Int), fval lv f → 0 ≤ i → i < fsize f → nW f i
  | .leaf, _, i, _, h0, h1 => by simp only [fsize] at h1; omega
  | .inner s (fm, tg, tx) u ks r, lv, i, ⟨v0, v1, v2, v3, v4⟩, h0, h1 => by
    have s1 := fsize0 ks
    have s2 := fsize0 r
    have l0 := flen0 ks
    have l1 := flen_le ks
    simp only [fsize] at h1
    obtain ⟨n1, n2, n3, n4, n5, n6, n7, n8⟩ := v2
    by_cases q : i = 0
    · subst q
      have e := fat_0 s fm tg tx u ks r
      have c0 : 0 ≤ zct fm tx ks := by unfold zct; (repeat' split) <;> omega
      apply nW.mk1 <;> simp only [nf, nt, nc, ns, nch, e]
      case s1 => omega
      case s2 => simp only [fsize]; omega
      case f0 => omega
      case t3 => intro q; exact ⟨(n3 q).1, by rw [q]; rfl⟩
      case t4 => intro q; exact ⟨(n4 q).1, by subst q; simp [zct]; have := (n4 rfl).2.1; omega⟩
      case t0 => exact n5
      case t2 => intro q; rcases q with q | q; · exact (n6 q).1
                 · exact n7 q
      case c0 => exact c0
      case c1 =>
        intro q
        unfold zct
        by_cases q1 : fm = 1
        · have := (n6 q1).2; rw [if_pos q1, if_neg q, if_pos q1]; omega
        · rw [if_neg q1]
          by_cases q2 : fm = 0 ∨ fm = 2
          · rw [if_pos q2, if_neg q, if_neg q1, if_neg (by omega)]; omega
          · rw [if_neg q2]; omega
      case l1 =>
        intro q
        have : ks = .leaf := by
          by_cases z : fm = 3
          · exact (n3 z).2
          · exact (n4 (by omega)).2.2.2
        subst this
        rfl
    · by_cases q2 : i ≤ fsize ks
      · have w := nW_of ks (lv + 1) (i - 1) v3 (by omega) (by omega)
        have e : fat (.inner s (fm, tg, tx) u ks r) i = fat ks (i - 1) := by rw [fat, if_neg q, if_pos q2]
        have w2 := w.s2
        obtain ⟨w_s1, w_s2, w_f0, w_t3, w_t4, w_t0, w_t2, w_c0, w_c1, w_l1⟩ := w
        simp only [nf, nt, nc, ns, nch] at *
        apply nW.mk1 <;> simp only [nf, nt, nc, ns, nch, e, fsize] <;> first | assumption | omega
      · have w := nW_of r lv (i - 1 - fsize ks) v4 (by omega) (by omega)
        have e : fat (.inner s (fm, tg, tx) u ks r) i = fat r (i - 1 - fsize ks) := by rw [fat, if_neg q, if_neg q2]
        have w2 := w.s2
        obtain ⟨w_s1, w_s2, w_f0, w_t3, w_t4, w_t0, w_t2, w_c0, w_c1, w_l1⟩ := w
        simp only [nf, nt, nc, ns, nch] at *
        apply nW.mk1 <;> simp only [nf, nt, nc, ns, nch, e, fsize] <;> first | assumption | omega
/-- where the items of a forest begin -/
def fpos : F → Nat → Int
  | .leaf, _ => 0
  | .inner _ _ _ _ _, 0 => 0
  | .inner _ _ _ ks r, j + 1 => 1 + fsize ks + fpos r j
theorem fpos_ok : ∀ (f : F) (j : Nat), (j : Int) ≤ flen f → 0 ≤ fpos f j ∧ fpos f j ≤ fsize f ∧ ((j : Int) < flen f → fpos f j < fsize f ∧ fpos f (j + 1) = fpos f j + ns f (fpos f j)) ∧ ((j : Int) = flen f → fpos f j = fsize f)
  | .leaf, j, h => by
    simp only [flen] at h
    refine ⟨by simp [fpos], by simp [fpos, fsize], fun q => ?_, fun _ => by simp [fpos, fsize]⟩
    simp only [flen] at q; omega
  | .inner s (fm, tg, tx) u ks r, 0, h => by
    have s1 := fsize0 ks
    have s2 := fsize0 r
    have l0 := flen0 r
    refine ⟨by simp [fpos], by simp only [fpos, fsize]; omega, fun _ => ⟨by simp only [fpos, fsize]; omega, ?_⟩, fun q => ?_⟩
    · simp only [fpos, ns, fat_0]
      have : fpos r 0 = 0 := by cases r <;> rfl
      rw [this]; omega
    · simp only [flen] at q; omega
  | .inner s (fm, tg, tx) u ks r, j + 1, h => by
    have s1 := fsize0 ks
    have s2 := fsize0 r
    simp only [flen] at h ⊢
    obtain ⟨a, b, c, d⟩ := fpos_ok r j (by omega)
    simp only [fpos, fsize]
    refine ⟨by omega, by omega, fun q => ?_, fun q => ?_⟩
    · obtain ⟨c1, c2⟩ := c (by omega)
      refine ⟨by omega, ?_⟩
      simp only [ns] at c2 ⊢
      rw [fat_r a, c2]; omega
    · have := d (by omega); omega
theorem wi_ok : ∀ (f : F) (lv i : Int), fval lv f → 0 ≤ i → i < fsize f → ∀ j : Nat, (j : Int) ≤ nch f i → i + 1 ≤ wi f i j ∧ wi f i j ≤ i + ns f i ∧ ((j : Int) < nch f i → wi f i j < i + ns f i) ∧ ((j : Int) = nch f i → wi f i j = i + ns f i)
  | .leaf, _, i, _, h0, h1 => by simp only [fsize] at h1; omega
  | .inner s (fm, tg, tx) u ks r, lv, i, ⟨v0, v1, v2, v3, v4⟩, h0, h1 => by
    have s1 := fsize0 ks
    have s2 := fsize0 r
    simp only [fsize] at h1
    by_cases q : i = 0
    · subst q
      have e := fat_0 s fm tg tx u ks r
      have nk : nch (.inner s (fm, tg, tx) u ks r) 0 = flen ks := by
        obtain ⟨n1, n2, n3, n4, n5, n6, n7, n8⟩ := v2
        simp only [nch, nf, nc, e, zct]
        by_cases q1 : fm = 1
        · have := (n6 q1).2; rw [if_pos q1, if_neg (by omega), if_pos q1]; omega
        · rw [if_neg q1]
          by_cases q2 : fm = 0 ∨ fm = 2
          · rw [if_pos q2, if_neg (by omega), if_neg q1, if_neg (by omega)]
          · rw [if_neg q2]
            have : ks = .leaf := by
              by_cases z : fm = 3
              · exact (n3 z).2
              · exact (n4 (by omega)).2.2.2
            subst this; rfl
      rw [nk]
      have wp : ∀ j : Nat, (j : Int) ≤ flen ks → wi (.inner s (fm, tg, tx) u ks r) 0 j = 1 + fpos ks j := by
        intro j
        induction j with
        | zero => intro _; rw [wi]; have : fpos ks 0 = 0 := by cases ks <;> rfl
                  rw [this]; rfl
        | succ j ih =>
          intro hj
          obtain ⟨a, b, c, d⟩ := fpos_ok ks j (by omega)
          obtain ⟨c1, c2⟩ := c (by omega)
          rw [wi, ih (by omega), c2]
          simp only [ns]
          rw [fat_k a c1]; omega
      intro j hj
      rw [wp j hj]
      obtain ⟨a, b, c, d⟩ := fpos_ok ks j hj
      simp only [ns, e]
      refine ⟨by omega, by omega, fun q => ?_, fun q => ?_⟩
      · have := (c q).1; omega
      · rw [d q]; omega
    · by_cases q2 : i ≤ fsize ks
      · have w := wi_ok ks (lv + 1) (i - 1) v3 (by omega) (by omega)
        have nw := (nW_of ks (lv + 1) (i - 1) v3 (by omega) (by omega)).s2
        have e : fat (.inner s (fm, tg, tx) u ks r) i = fat ks (i - 1) := by rw [fat, if_neg q, if_pos q2]
        have nk : nch (.inner s (fm, tg, tx) u ks r) i = nch ks (i - 1) := by unfold nch nf nc; rw [e]
        have nz : ns (.inner s (fm, tg, tx) u ks r) i = ns ks (i - 1) := by simp only [ns, e]
        have wp : ∀ j : Nat, (j : Int) ≤ nch ks (i - 1) → wi (.inner s (fm, tg, tx) u ks r) i j = 1 + wi ks (i - 1) j := by
          intro j
          induction j with
          | zero => intro _; simp only [wi]; omega
          | succ j ih =>
            intro hj
            obtain ⟨a, b, c, d⟩ := w j (by omega)
            have c := c (by omega)
            rw [wi, ih (by omega), wi]
            simp only [ns] at nw c ⊢
            rw [fat_k (by omega) (by omega)]; omega
        intro j hj
        rw [nk] at hj ⊢
        obtain ⟨a, b, c, d⟩ := w j hj
        rw [wp j hj, nz]
        refine ⟨by omega, by omega, fun z => ?_, fun z => ?_⟩
        · have := c z; omega
        · have := d z; omega
      · have w := wi_ok r lv (i - 1 - fsize ks) v4 (by omega) (by omega)
        have e : fat (.inner s (fm, tg, tx) u ks r) i = fat r (i - 1 - fsize ks) := by rw [fat, if_neg q, if_neg q2]
        have nk : nch (.inner s (fm, tg, tx) u ks r) i = nch r (i - 1 - fsize ks) := by unfold nch nf nc; rw [e]
        have nz : ns (.inner s (fm, tg, tx) u ks r) i = ns r (i - 1 - fsize ks) := by simp only [ns, e]
        have wp : ∀ j : Nat, (j : Int) ≤ nch r (i - 1 - fsize ks) → wi (.inner s (fm, tg, tx) u ks r) i j = 1 + fsize ks + wi r (i - 1 - fsize ks) j := by
          intro j
          induction j with
          | zero => intro _; simp only [wi]; omega
          | succ j ih =>
            intro hj
            obtain ⟨a, b, c, d⟩ := w j (by omega)
            rw [wi, ih (by omega), wi]
            simp only [ns]
            rw [fat_r (by omega)]; omega
        intro j hj
        rw [nk] at hj ⊢
        obtain ⟨a, b, c, d⟩ := w j hj
        rw [wp j hj, nz]
        refine ⟨by omega, by omega, fun z => ?_, fun z => ?_⟩
        · have := c z; omega
        · have := d z; omega
/-- X's row by numbers -/
theorem xseg_at {S : Sto} : ∀ (f : F) (k : Int), xseg S k f → ∀ i, 0 ≤ i → i < fsize f → S 98 (k + i) = zxk (nf f i) ∧ S 99 (k + i) = (if nf f i = 3 then nt f i else nc f i) ∧ S 100 (k + i) = (if nf f i = 0 then nt f i else 0) ∧ S 101 (k + i) = ns f i
  | .leaf, _, _, i, h0, h1 => by simp only [fsize] at h1; omega
  | .inner s (fm, tg, tx) u ks r, k, h, i, h0, h1 => by
    have s1 := fsize0 ks
    simp only [fsize] at h1
    simp only [xseg] at h
    obtain ⟨⟨a1, a2, a3, a4, a5, a6⟩, b, c⟩ := h
    by_cases q : i = 0
    · subst q
      simp only [nf, nt, nc, ns, fat_0, Int.add_zero]
      exact ⟨a1, a2, a3, a4⟩
    · by_cases q2 : i ≤ fsize ks
      · have e : fat (.inner s (fm, tg, tx) u ks r) i = fat ks (i - 1) := by rw [fat, if_neg q, if_pos q2]
        have := xseg_at ks (k + 1) b (i - 1) (by omega) (by omega)
        rw [show k + 1 + (i - 1) = k + i by omega] at this
        simp only [nf, nt, nc, ns, e] at this ⊢
        exact this
      · have e : fat (.inner s (fm, tg, tx) u ks r) i = fat r (i - 1 - fsize ks) := by rw [fat, if_neg q, if_neg q2]
        have := xseg_at r (k + 1 + fsize ks) c (i - 1 - fsize ks) (by omega) (by omega)
        rw [show k + 1 + fsize ks + (i - 1 - fsize ks) = k + i by omega] at this
        simp only [nf, nt, nc, ns, e] at this ⊢
        exact this
