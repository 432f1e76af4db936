-- uses: 41
theorem LW.live {L : Led} (w : LW L) {n : Int} (h0 : 0 ≤ n) (h1 : n < L.n) : zlv L.se (L.sb L.T) n ↔ L.sp n < 0 := by
  have hT := w.T
  constructor
  · intro h
    by_cases q : L.sp n < 0
    · exact q
    · obtain ⟨s, a, b, c⟩ := w.spe n h0 h1 (by omega)
      exact absurd c (h s a b)
  · intro h s a b e
    obtain ⟨u, x1, x2, x3, x4⟩ := w.txs s a L.T.toNat (by omega) (by rw [show (L.T.toNat : Int) = L.T by omega]; exact b)
    have x5 := (w.tw u x1 (by omega)).se s x3 x4
    have x6 := (w.tw u x1 (by omega)).th
    rw [e] at x5
    omega
theorem ztt_zsum (sp f : Int → Int) : ∀ m, ztt sp f m = zsum (fun n => if sp n < 0 then f n else 0) m := by
  intro m
  induction m with
  | zero => rfl
  | succ m ih => rw [ztt, zsum, ih]
theorem LW.tot_sup {L : Led} (w : LW L) (p nm : Int) : L.sup L.T p nm = L.tot p nm + (if p = 0 ∧ nm = 0 then L.pot else 0) := by
  unfold Led.sup Led.tot Led.pot
  rw [ztt_zsum, w.obT]
  congr 1
  apply zsum_cg
  intro n a b
  have := w.n
  have h := w.live (n := n) a (by omega)
  unfold zilv
  by_cases q : L.sp n < 0
  · rw [if_pos (h.mpr q), if_pos q]
  · rw [if_neg (fun z => q (h.mp z)), if_neg q]
theorem OW.amt0 {L : Led} {n : Int} (ow : OW L n) (p nm : Int) : 0 ≤ L.amt p nm n := by
  unfold Led.amt
  have : ∀ (c : Nat) (k : Int), 8 * n ≤ k → k + c ≤ 8 * n + L.kd n → 0 ≤ zlk L.po L.na L.am p nm c k := by
    intro c
    induction c with
    | zero => intros; simp [zlk]
    | succ c ih =>
      intro k a b
      rw [zlk]
      split
      · have := ow.po (k - 8 * n) (by omega) (by omega)
        rw [show 8 * n + (k - 8 * n) = k by omega] at this
        omega
      · exact ih (k + 1) (by omega) (by omega)
  exact this _ _ (by omega) (by have := ow.kd; omega)
theorem zsum_pos {f : Int → Int} : ∀ (m : Nat), (∀ n : Int, 0 ≤ n → n < m → 0 ≤ f n) → 0 ≤ zsum f m := by
  intro m
  induction m with
  | zero => intro; simp [zsum]
  | succ m ih =>
    intro h
    have a := ih (fun n p q => h n p (by omega))
    have c := h m (by omega) (by omega)
    rw [zsum]
    omega
theorem LW.tot0 {L : Led} (w : LW L) (p nm : Int) : 0 ≤ L.tot p nm := by
  unfold Led.tot
  rw [ztt_zsum]
  apply zsum_pos
  intro n a b
  have := w.n
  have := (w.ow n a (by omega)).amt0 p nm
  split <;> omega
theorem LW.pot0 {L : Led} (w : LW L) : 0 ≤ L.pot ∧ L.pot ≤ 4611686018427387904 := w.potb L.T w.T (by omega)
theorem LW.totb {L : Led} (w : LW L) (p nm : Int) : L.tot p nm + (if p = 0 ∧ nm = 0 then L.pot else 0) ≤ 4611686018427387904 := by
  have := w.sup L.T p nm w.T (by omega)
  rw [w.tot_sup] at this
  exact this
theorem LW.totb' {L : Led} (w : LW L) (p nm : Int) : L.tot p nm ≤ 4611686018427387904 := by
  have a := w.totb p nm
  have b := w.pot0
  split at a <;> omega
theorem LW.endow {L : Led} (w : LW L) (o a : Int) (hc : L.cE o a) : LW (L.endow o a) := by
  obtain ⟨c1, c2, c3, c4, c5, c6, c7⟩ := hc
  have hb := w.bg
  have hT : L.T = 0 := by omega
  have hh : L.ht = 0 := by omega
  have he := w.e
  have o0 := w.ob0
  have oT := w.obT
  rw [hT] at oT
  have hn := w.n
  have s0 := w.sb0
  have n1 : (L.begin o).n = L.n + 1 := rfl
  have fk : ∀ i, (L.endow o a).kd i = if i = L.n then 1 else L.kd i := by
    intro i
    by_cases q : i = L.n <;> simp [Led_mk, Led.endow, Led.datum, Led.coin, Led.begin, fset, q]
  have fd : ∀ i, (L.endow o a).ds i = if i = L.n then 1 else L.ds i := by
    intro i
    by_cases q : i = L.n <;> simp [Led_mk, Led.endow, Led.datum, Led.coin, Led.begin, fset, q]
  have fp : ∀ i, (L.endow o a).po i = if i = 8 * L.n then 0 else L.po i := by
    intro i
    simp only [Led_mk, Led.endow, Led.datum, Led.coin, Led.begin, fset, Int.add_sub_cancel, if_true, Int.add_zero]
  have fn : ∀ i, (L.endow o a).na i = if i = 8 * L.n then 0 else L.na i := by
    intro i
    simp only [Led_mk, Led.endow, Led.datum, Led.coin, Led.begin, fset, Int.add_sub_cancel, if_true, Int.add_zero]
  have fa : ∀ i, (L.endow o a).am i = if i = 8 * L.n then a else L.am i := by
    intro i
    simp only [Led_mk, Led.endow, Led.datum, Led.coin, Led.begin, fset, Int.add_sub_cancel, if_true, Int.add_zero]
  have fad : ∀ i, (L.endow o a).ad i = if i = L.n then o else L.ad i := fun i => rfl
  have fmd : ∀ i, (L.endow o a).md i = if i = L.n then L.ht else L.md i := fun i => rfl
  have fsp : ∀ i, (L.endow o a).sp i = if i = L.n then -1 else L.sp i := fun i => rfl
  have am0 : ∀ p nm i, 0 ≤ i → i < L.n → (L.endow o a).amt p nm i = L.amt p nm i := by
    intro p nm i x y
    unfold Led.amt
    rw [fk, if_neg (by omega)]
    apply zlk_cg
    have := (w.ow i x y).kd
    intro j z1 z2
    rw [fp, fn, fa, if_neg (by omega), if_neg (by omega), if_neg (by omega)]
    exact ⟨rfl, rfl, rfl⟩
  have am1 : ∀ p nm, (L.endow o a).amt p nm L.n = if p = 0 ∧ nm = 0 then a else 0 := by
    intro p nm
    unfold Led.amt
    rw [fk, if_pos rfl]
    simp only [Int.toNat_one, zlk, fp, fn, fa, if_true]
    by_cases q : p = 0
    · by_cases r : nm = 0
      · simp [q, r]
      · rw [if_neg (by omega), if_neg (by omega)]
    · rw [if_neg (by omega), if_neg (by omega)]
  apply LW.mk1
  case n => show 0 ≤ L.n + 1 ∧ L.n + 1 ≤ 1024; omega
  case e => show 0 ≤ L.e + 1 ∧ L.e + 1 ≤ L.n + 1; omega
  case T => exact w.T
  case ht => exact w.ht
  case ud => exact w.ud
  case bg => exact w.bg
  case ow =>
    intro n x y
    have y : n < L.n + 1 := y
    by_cases q : n = L.n
    · subst q
      apply OW.mk1
      case ad => rw [fad, if_pos rfl]; omega
      case md => rw [fmd, if_pos rfl]; show 0 ≤ L.ht ∧ L.ht ≤ L.ht; omega
      case sp => rw [fsp, if_pos rfl]; show _ ∧ _ ≤ L.ht; omega
      case kd => rw [fk, if_pos rfl]; omega
      case ds => rw [fd, if_pos rfl]; omega
      case po => intro k z1 z2; rw [fk, if_pos rfl] at z2; rw [fp, fn, fa, if_pos (by omega), if_pos (by omega), if_pos (by omega)]; unfold zLong; omega
      case p0 => intro k z1 z2; rw [fk, if_pos rfl] at z2; rw [fp, fn, if_pos (by omega), if_pos (by omega)]; intro; rfl
      case inc => intro k z1 z2; rw [fk, if_pos rfl] at z2; omega
    · have ow := w.ow n x (by omega)
      have kb := ow.kd
      apply OW.mk1
      case ad => rw [fad, if_neg q]; exact ow.ad
      case md => rw [fmd, if_neg q]; exact ow.md
      case sp => rw [fsp, if_neg q]; exact ow.sp
      case kd => rw [fk, if_neg q]; exact ow.kd
      case ds => rw [fd, if_neg q]; exact ow.ds
      case po => intro k z1 z2; rw [fk, if_neg q] at z2; rw [fp, fn, fa, if_neg (by omega), if_neg (by omega), if_neg (by omega)]; exact ow.po k z1 z2
      case p0 => intro k z1 z2; rw [fk, if_neg q] at z2; rw [fp, fn, if_neg (by omega), if_neg (by omega)]; exact ow.p0 k z1 z2
      case inc => intro k z1 z2; rw [fk, if_neg q] at z2; rw [fp, fn, fp, fn, if_neg (by omega), if_neg (by omega), if_neg (by omega), if_neg (by omega)]; exact ow.inc k z1 z2
  case tw => intro t x y; have y : t < L.T := y; omega
  case md0 => intro n x y; have y : n < L.e + 1 := y; rw [fmd]; split; · exact hh
              · exact w.md0 n x (by omega)
  case ob0 => show L.ob 0 + 1 = L.e + 1; omega
  case obT => show L.ob L.T + 1 = L.n + 1; rw [hT]; omega
  case sb0 => exact w.sb0
  case thm => exact w.thm
  case spe =>
    intro n x y z
    rw [fsp] at z
    split at z
    · omega
    · exact w.spe n x (by have y : n < L.n + 1 := y; omega) z
  case inj => exact w.inj
  case mr => exact w.mr
  case mrt => exact w.mrt
  case sup =>
    intro t p nm x y
    have y : t ≤ L.T := y
    have ht : t = 0 := by omega
    subst ht
    have old := w.sup 0 p nm (by omega) y
    have tt := w.tot_sup p nm
    rw [hT] at tt
    unfold Led.sup at old ⊢
    show zsum (fun n => zilv L.se (L.sb 0) n ((L.endow o a).amt p nm n)) (L.ob 0 + 1).toNat + (if p = 0 ∧ nm = 0 then zsum L.pt (0 : Int).toNat else 0) ≤ _
    rw [show (L.ob 0 + 1).toNat = (L.ob 0).toNat + 1 by omega, zsum, zsum_cg (f' := fun n => zilv L.se (L.sb 0) n (L.amt p nm n))]
    · rw [show ((L.ob 0).toNat : Int) = L.n by omega, am1]
      unfold Led.sup at tt
      have : zilv L.se (L.sb 0) L.n (if p = 0 ∧ nm = 0 then a else 0) ≤ if p = 0 ∧ nm = 0 then a else 0 := by unfold zilv; split <;> split <;> omega
      have pz : L.pot = 0 := by unfold Led.pot; rw [hT]; rfl
      by_cases q : p = 0 ∧ nm = 0
      · obtain ⟨rfl, rfl⟩ := q
        simp only [if_true, and_self] at this tt ⊢
        omega
      · rw [if_neg q] at this old ⊢
        simp only [if_neg q] at this ⊢
        omega
    · intro n z1 z2
      rw [am0 p nm n z1 (by omega)]
