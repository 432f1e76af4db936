-- uses: 33 31
/-! endowing, closing a block -/
theorem XL.amt {S : Sto} {L : Led} (h : XL S L) (w : LW L) (p nm n : Int) (h0 : 0 ≤ n) (h1 : n < L.n) : zxa S p nm n = L.amt p nm n := by
  unfold zxa Led.amt
  rw [h.kd n h0 h1]
  have := (w.ow n h0 h1).kd
  apply zlk_cg
  intro j a b
  have e : j = 8 * n + (j - 8 * n) := by omega
  rw [e]
  exact ⟨h.po n _ h0 h1 (by omega) (by omega), h.na n _ h0 h1 (by omega) (by omega), h.am n _ h0 h1 (by omega) (by omega)⟩
theorem ML.amt {S : Sto} {L : Led} (h : ML S L) (w : LW L) (p nm n : Int) (h0 : 0 ≤ n) (h1 : n < L.n) : zma S p nm n = L.amt p nm n := by
  unfold zma Led.amt
  rw [h.kd n h0 h1]
  have := (w.ow n h0 h1).kd
  apply zlk_cg
  intro j a b
  have e : j = 8 * n + (j - 8 * n) := by omega
  rw [e]
  exact ⟨h.po n _ h0 h1 (by omega) (by omega), h.na n _ h0 h1 (by omega) (by omega), h.am n _ h0 h1 (by omega) (by omega)⟩
theorem XL.tot {S : Sto} {L : Led} (h : XL S L) (w : LW L) (p nm : Int) : ztt (S 55) (zxa S p nm) (S 12 9).toNat = L.tot p nm := by
  unfold Led.tot
  have := w.n
  rw [h.size]
  exact ztt_cg _ (fun n h0 h1 => ⟨h.sp n h0 (by omega), h.amt w p nm n h0 (by omega)⟩)
theorem ML.tot {S : Sto} {L : Led} (h : ML S L) (w : LW L) (p nm : Int) : ztt (S 130) (zma S p nm) (S 34 11).toNat = L.tot p nm := by
  unfold Led.tot
  have := w.n
  rw [h.made]
  exact ztt_cg _ (fun n h0 h1 => ⟨h.sp n h0 (by omega), h.amt w p nm n h0 (by omega)⟩)
theorem XL.ok {S : Sto} {L : Led} (h : XL S L) (w : LW L) : zxok S := by
  have := w.n
  refine ⟨by rw [h.size]; omega, by rw [h.size]; omega, fun n h0 h1 => ?_⟩
  rw [h.size] at h1
  have := (w.ow n h0 h1).kd
  rw [h.kd n h0 h1]
  omega
theorem ML.ok {S : Sto} {L : Led} (h : ML S L) (w : LW L) : zmok S := by
  have := w.n
  refine ⟨by rw [h.made]; omega, by rw [h.made]; omega, fun n h0 h1 => ?_⟩
  rw [h.made] at h1
  have := (w.ow n h0 h1).kd
  rw [h.kd n h0 h1]
  omega
theorem zsum0 {f : Int → Int} : ∀ (m : Nat), (∀ n : Int, 0 ≤ n → n < m → f n = 0) → zsum f m = 0 := by
  intro m
  induction m with
  | zero => intros; rfl
  | succ m ih =>
    intro h
    rw [zsum, h m (by omega) (by omega), ih (fun n h1 h2 => h n h1 (by omega))]
    rfl
theorem zsum_add (f g : Int → Int) : ∀ (m : Nat), zsum (fun t => f t + g t) m = zsum f m + zsum g m := by
  intro m
  induction m with
  | zero => rfl
  | succ m ih => simp only [zsum, ih]; omega
/-- the pot by heights is the pot -/
theorem zsum_at (f th : Int → Int) (m : Nat) : ∀ (H : Nat), zsum (fun h => zsum (zaTh f th h) m) H = zsum (fun t => if 0 ≤ th t ∧ th t < H then f t else 0) m := by
  intro H
  induction H with
  | zero =>
    rw [zsum, zsum0]
    intro n _ _
    rw [if_neg (by omega)]
  | succ H ih =>
    rw [zsum, ih, ← zsum_add]
    apply zsum_cg
    intro n _ _
    unfold zaTh
    (repeat' split) <;> omega
theorem ML.pot {S : Sto} {L : Led} (h : ML S L) (w : LW L) : zsum (S 131) (S 34 23 + 1).toNat = L.pot := by
  have h1 := w.ht
  have h2 := w.T
  rw [h.ht, zsum_cg (f' := fun k => zsum (zaTh L.pt L.th k) L.T.toNat) _ (fun n a b => h.pts n a (by omega)), zsum_at]
  unfold Led.pot
  apply zsum_cg
  intro n a b
  rw [if_pos]
  have := (w.tw n a (by omega)).th
  omega
theorem x_totL {S : Sto} {L : Led} (h : XL S L) (w : LW L) (Q : ZQ) (p nm : Int) : zCall Cd 46 7 [(12, 12), (0, p), (1, nm)] S Q = Q S (1, w64 (L.tot p nm)) := by
  rw [x_tot S Q p nm (h.ok w), h.tot w]
theorem m_totL {S : Sto} {L : Led} (h : ML S L) (w : LW L) (h64 : L.ht ≤ 64) (Q : ZQ) (p nm : Int) : zCall Cd 268 7 [(34, 34), (0, p), (1, nm)] S Q = Q S (1, w64 ((if p = 0 ∧ nm = 0 then L.pot else 0) + L.tot p nm)) := by
  have h1 := h.ht
  have h2 := w.ht
  rw [m_tot S Q p nm (h.ok w) (by omega) (by omega), h.tot w, h.pot w]
