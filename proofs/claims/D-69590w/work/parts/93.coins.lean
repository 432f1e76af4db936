-- uses: 92 82
/-! sums of coins, plainly -/
def gacc (g : Int → Int → Int) (k : Nat → Int × Int × Int) : Nat → Int → Int → Int
  | 0 => g
  | c + 1 => gad (gacc g k c) (k c).1 (k c).2.1 (k c).2.2
def g0 : Int → Int → Int := fun _ _ => 0
theorem gacc_add (g : Int → Int → Int) (k : Nat → Int × Int × Int) (p m : Int) : ∀ c, gacc g k c p m = g p m + gacc g0 k c p m := by
  intro c
  induction c with
  | zero => simp [gacc, g0]
  | succ c ih => rw [gacc, gacc]; unfold gad; rw [ih]; omega
theorem gacc_no {k : Nat → Int × Int × Int} {p m : Int} : ∀ c, (∀ i, i < c → ¬ ((k i).1 = p ∧ (k i).2.1 = m)) → gacc g0 k c p m = 0 := by
  intro c
  induction c with
  | zero => intro _; rfl
  | succ c ih =>
    intro h
    rw [gacc]; unfold gad
    rw [ih (fun i hi => h i (by omega)), if_neg (fun x => h c (by omega) ⟨x.1.symm, x.2.symm⟩)]
    rfl
theorem gacc_at {k : Nat → Int × Int × Int} : ∀ c j, (∀ i j, i < j → j < c → ¬ ((k i).1 = (k j).1 ∧ (k i).2.1 = (k j).2.1)) → j < c → gacc g0 k c (k j).1 (k j).2.1 = (k j).2.2 := by
  intro c
  induction c with
  | zero => intro j _ h; omega
  | succ c ih =>
    intro j d hj
    rw [gacc]; unfold gad
    by_cases q : j = c
    · subst q
      rw [gacc_no j (fun i hi => d i j hi (by omega)), if_pos ⟨rfl, rfl⟩]; omega
    · rw [ih j (fun i j a b => d i j a (by omega)) (by omega), if_neg (d j c (by omega) (by omega))]; omega
theorem gacc_mono {k : Nat → Int × Int × Int} {g : Int → Int → Int} (p m : Int) : ∀ c d, (∀ i, i < c + d → 0 ≤ (k i).2.2) → gacc g k c p m ≤ gacc g k (c + d) p m := by
  intro c d
  induction d with
  | zero => intro _; exact Int.le_refl _
  | succ d ih =>
    intro h
    have a := ih (fun i hi => h i (by omega))
    have b := h (c + d) (by omega)
    rw [show c + (d + 1) = (c + d) + 1 by omega, gacc]; unfold gad
    split <;> omega
theorem zlk_no {po na am : Int → Int} {p nm : Int} : ∀ (c : Nat) (k : Int), (∀ i, k ≤ i → i < k + c → ¬ (po i = p ∧ na i = nm)) → zlk po na am p nm c k = 0 := by
  intro c
  induction c with
  | zero => intros; rfl
  | succ c ih =>
    intro k h
    rw [zlk, if_neg (h k (by omega) (by omega))]
    exact ih (k + 1) (fun i a b => h i (by omega) (by omega))
theorem zlk_at {po na am : Int → Int} {p nm : Int} : ∀ (c : Nat) (k j : Int), k ≤ j → j < k + c → po j = p → na j = nm → (∀ i, k ≤ i → i < j → ¬ (po i = p ∧ na i = nm)) → zlk po na am p nm c k = am j := by
  intro c
  induction c with
  | zero => intro k j a b; omega
  | succ c ih =>
    intro k j a b e1 e2 h
    rw [zlk]
    by_cases q : j = k
    · subst q; rw [if_pos ⟨e1, e2⟩]
    · rw [if_neg (h k (by omega) (by omega))]
      exact ih (k + 1) j (by omega) (by omega) e1 e2 (fun i a b => h i (by omega) b)
def kL (L : Led) (n : Int) (j : Nat) : Int × Int × Int := (L.po (8 * n + j), L.na (8 * n + j), L.am (8 * n + j))
def kF (f : F) (l : Int) (j : Nat) : Int × Int × Int := (nt f (wi f l j + 1), nt f (wi f l j + 2), nt f (wi f l j + 3))
theorem OW.lt {L : Led} {n : Int} (h : OW L n) : ∀ (d : Nat) (i : Int), 0 ≤ i → i + d + 1 < L.kd n → zltK (L.po (8 * n + i)) (L.na (8 * n + i)) (L.po (8 * n + (i + d + 1))) (L.na (8 * n + (i + d + 1))) := by
  intro d
  induction d with
  | zero =>
    intro i a b
    have := h.inc i a (by omega)
    rw [show i + ((0 : Nat) : Int) + 1 = i + 1 by omega]; exact this
  | succ d ih =>
    intro i a b
    have x := ih i a (by omega)
    have y := h.inc (i + d + 1) (by omega) (by omega)
    rw [show i + ((d + 1 : Nat) : Int) + 1 = i + d + 1 + 1 by omega]
    exact zltK_tr x y
theorem OW.gacc {L : Led} {n : Int} (h : OW L n) (p m : Int) : gacc g0 (kL L n) (L.kd n).toNat p m = L.amt p m n := by
  have kd := h.kd
  have df : ∀ i j : Nat, i < j → (j : Int) < L.kd n → ¬ (L.po (8 * n + i) = L.po (8 * n + j) ∧ L.na (8 * n + i) = L.na (8 * n + j)) := by
    intro i j a b e
    have := h.lt (j - i - 1) (i : Int) (by omega) (by omega)
    rw [show (i : Int) + ((j - i - 1 : Nat) : Int) + 1 = j by omega, e.1, e.2] at this
    exact zltK_ir this
  unfold Led.amt
  by_cases q : ∃ j : Nat, (j : Int) < L.kd n ∧ L.po (8 * n + j) = p ∧ L.na (8 * n + j) = m
  · obtain ⟨j, j1, j2, j3⟩ := q
    rw [zlk_at (L.kd n).toNat (8 * n) (8 * n + j) (by omega) (by omega) j2 j3 (fun i a b e => by
      have := df (i - 8 * n).toNat j (by omega) j1
      rw [show 8 * n + ((i - 8 * n).toNat : Int) = i by omega, e.1, e.2, j2, j3] at this
      exact this ⟨rfl, rfl⟩)]
    have := gacc_at (k := kL L n) (L.kd n).toNat j (fun i j a b => df i j a (by omega)) (by omega)
    unfold kL at this ⊢
    simp only [j2, j3] at this
    exact this
  · rw [zlk_no _ _ (fun i a b e => q ⟨(i - 8 * n).toNat, by omega, by rw [show 8 * n + ((i - 8 * n).toNat : Int) = i by omega]; exact e.1, by rw [show 8 * n + ((i - 8 * n).toNat : Int) = i by omega]; exact e.2⟩)]
    exact gacc_no _ (fun i hi e => q ⟨i, by omega, e⟩)
/-- what the first so many inputs hold -/
def gIn (L : Led) (f : F) : Nat → Int → Int → Int
  | 0 => g0
  | i + 1 => gacc (gIn L f i) (kL L ((nt f (wi f (w0 f 0) i + 1)))) (L.kd ((nt f (wi f (w0 f 0) i + 1)))).toNat
def sIn (L : Led) (f : F) (p m : Int) : Nat → Int
  | 0 => 0
  | i + 1 => sIn L f p m i + L.amt p m ((nt f (wi f (w0 f 0) i + 1)))
theorem gIn_s {L : Led} {f : F} (w : LW L) (p m : Int) : ∀ i : Nat, (∀ j : Nat, j < i → zlive L ((nt f (wi f (w0 f 0) j + 1)))) → gIn L f i p m = sIn L f p m i := by
  intro i
  induction i with
  | zero => intro _; rfl
  | succ i ih =>
    intro h
    have lv := h i (by omega)
    rw [gIn, gacc_add, ih (fun j hj => h j (by omega)), (w.ow _ lv.1 lv.2.1).gacc, sIn]
theorem zsum_out (f : Int → Int) (a : Int) : ∀ m : Nat, 0 ≤ a → a < m → zsum f m = zsum (fun n => if n = a then 0 else f n) m + f a := by
  intro m
  induction m with
  | zero => intro _ _; omega
  | succ m ih =>
    intro a0 a1
    rw [zsum, zsum]
    by_cases q : a = m
    · subst q
      have e : zsum (fun n => if n = (m : Int) then 0 else f n) m = zsum f m := zsum_cg m (fun n x y => by
        show (if n = (m : Int) then 0 else f n) = f n
        rw [if_neg (by omega)])
      rw [if_pos rfl, e]
      omega
    · rw [ih a0 (by omega), if_neg (by omega)]; omega
theorem zsum_sel {N : Nat} (a : Nat → Int) : ∀ (i : Nat) (f : Int → Int), (∀ n : Int, 0 ≤ n → n < N → 0 ≤ f n) → (∀ j : Nat, j < i → 0 ≤ a j ∧ a j < N) → (∀ j k : Nat, j < k → k < i → a j ≠ a k) → ∀ s : Nat → Int, s 0 = 0 → (∀ j, j < i → s (j + 1) = s j + f (a j)) → s i ≤ zsum f N := by
  intro i
  induction i with
  | zero => intro f h _ _ s s0 _; rw [s0]; exact zsum_pos N h
  | succ i ih =>
    intro f h ha hd s s0 hs
    have l := ha i (by omega)
    have I := ih (fun n => if n = a i then 0 else f n) (fun n x y => by
      show 0 ≤ (if n = a i then 0 else f n)
      split
      · omega
      · exact h n x y) (fun j hj => ha j (by omega)) (fun j k x y => hd j k x (by omega)) s s0 (fun j hj => by
      rw [hs j (by omega)]
      show s j + f (a j) = s j + (if a j = a i then 0 else f (a j))
      rw [if_neg (hd j i hj (by omega))])
    rw [hs i (by omega), zsum_out f (a i) N l.1 l.2]
    omega
theorem sIn_b {L : Led} {f : F} (w : LW L) (p m : Int) (i : Nat) (h : ∀ j : Nat, j < i → zlive L ((nt f (wi f (w0 f 0) j + 1)))) (d : ∀ j k : Nat, j < k → k < i → (nt f (wi f (w0 f 0) j + 1)) ≠ (nt f (wi f (w0 f 0) k + 1))) : 0 ≤ sIn L f p m i ∧ sIn L f p m i ≤ L.tot p m := by
  have nn := w.n
  constructor
  · have : ∀ j : Nat, j ≤ i → 0 ≤ sIn L f p m j := by
      intro j
      induction j with
      | zero => intro _; simp [sIn]
      | succ j ih =>
        intro hj
        have lv := h j (by omega)
        have := (w.ow _ lv.1 lv.2.1).amt0 p m
        have := ih (by omega)
        rw [sIn]; omega
    exact this i (by omega)
  · unfold Led.tot
    rw [ztt_zsum]
    apply zsum_sel (fun j => (nt f (wi f (w0 f 0) j + 1))) i _ (fun n x y => by
      show 0 ≤ (if L.sp n < 0 then L.amt p m n else 0)
      split
      · exact (w.ow n x (by omega)).amt0 p m
      · omega) (fun j hj => ⟨(h j hj).1, by have := (h j hj).2.1; omega⟩) d (sIn L f p m) rfl
    intro j hj
    show sIn L f p m j + L.amt p m ((nt f (wi f (w0 f 0) j + 1))) = sIn L f p m j + (if L.sp ((nt f (wi f (w0 f 0) j + 1))) < 0 then L.amt p m ((nt f (wi f (w0 f 0) j + 1))) else 0)
    rw [if_pos (h j hj).2.2]
theorem there_1 {L : Led} {f : F} (h : there L f = true) : (∀ j : Nat, (j : Int) < nc f (w0 f 0) → zlive L ((nt f (wi f (w0 f 0) j + 1)))) ∧ (∀ j k : Nat, j < k → (k : Int) < nc f (w0 f 0) → (nt f (wi f (w0 f 0) j + 1)) ≠ (nt f (wi f (w0 f 0) k + 1))) ∧ (∀ j : Nat, (j : Int) < nc f (w0 f 1) → zlive L ((nt f (wi f (w0 f 1) j)))) ∧ (∀ j k : Nat, j < k → (k : Int) < nc f (w0 f 1) → (nt f (wi f (w0 f 1) j)) ≠ (nt f (wi f (w0 f 1) k))) ∧ (∀ j k : Nat, (j : Int) < nc f (w0 f 0) → (k : Int) < nc f (w0 f 1) → (nt f (wi f (w0 f 0) j + 1)) ≠ (nt f (wi f (w0 f 1) k))) := by
  unfold there at h
  rw [Bool.and_eq_true, zall_iff, zall_iff] at h
  have hA : ∀ k : Nat, (k : Int) < nc f (w0 f 0) → thA L f k = true := fun k hk => h.1 k (by omega) (by omega)
  have hB : ∀ k : Nat, (k : Int) < nc f (w0 f 1) → thB L f k = true := fun k hk => h.2 k (by omega) (by omega)
  refine ⟨fun j hj => thA_l (hA j hj), fun j k a b => ?_, fun j hj => thB_l (hB j hj), fun j k a b => ?_, fun j k a b => ?_⟩
  · have := hA k b
    unfold thA at this
    rw [Bool.and_eq_true, zall_iff] at this
    exact of_decide_eq_true (this.2 j (by omega) (by omega))
  · have := hB k b
    unfold thB at this
    rw [Bool.and_eq_true, Bool.and_eq_true, zall_iff, zall_iff] at this
    exact of_decide_eq_true (this.2.1 j (by omega) (by omega))
  · have := hB k b
    unfold thB at this
    rw [Bool.and_eq_true, Bool.and_eq_true, zall_iff, zall_iff] at this
    exact of_decide_eq_true (this.2.2 j (by omega) (by omega))
