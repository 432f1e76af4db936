/-! SOUNDNESS 1: the relation between the pure machine's states and the model's -/
abbrev ZM : Type := (Int → Nat) × (Int → Prop)
/-- a value: ints and longs by number, references by the map of addresses -/
def zV (M : ZM) (v : AV) (x : Value) : Prop := (v.1 = 0 ∧ ∃ i : Int32, x = .int i ∧ i.toInt = v.2) ∨ (v.1 = 1 ∧ ∃ i : Int64, x = .long i ∧ i.toInt = v.2) ∨ (10 ≤ v.1 ∧ v.2 = 0 ∧ x = .null) ∨ (10 ≤ v.1 ∧ v.2 ≠ 0 ∧ v.2 % 512 = v.1 ∧ M.2 v.2 ∧ x = .ref (M.1 v.2))
theorem zV_int {M : ZM} {b : Int} {x : Value} (h : zV M (0, b) x) : ∃ i : Int32, x = .int i ∧ i.toInt = b := by
  rcases h with h | h | h | h
  · exact h.2
  · exact absurd h.1 (by simp)
  · exact absurd h.1 (by simp)
  · exact absurd h.1 (by simp)
theorem zV_long {M : ZM} {b : Int} {x : Value} (h : zV M (1, b) x) : ∃ i : Int64, x = .long i ∧ i.toInt = b := by
  rcases h with h | h | h | h
  · exact absurd h.1 (by simp)
  · exact h.2
  · exact absurd h.1 (by simp)
  · exact absurd h.1 (by simp)
theorem zV_ref {M : ZM} {t a : Int} {x : Value} (h : zV M (t, a) x) (ht : 10 ≤ t) : (a = 0 ∧ x = .null) ∨ (a ≠ 0 ∧ a % 512 = t ∧ M.2 a ∧ x = .ref (M.1 a)) := by
  rcases h with h | h | h | h
  · have := h.1; simp at this; omega
  · have := h.1; simp at this; omega
  · exact Or.inl h.2
  · exact Or.inr h.2
theorem zV_obj {M : ZM} {t a : Int} {x : Value} (h : zV M (t, a) x) (ht : 10 ≤ t) (ha : a ≠ 0) : a % 512 = t ∧ M.2 a ∧ x = .ref (M.1 a) := by
  rcases zV_ref h ht with h | h
  · exact absurd h.1 ha
  · exact h.2
theorem zV_i {M : ZM} (i : Int32) : zV M (0, i.toInt) (.int i) := Or.inl ⟨rfl, i, rfl, rfl⟩
theorem zV_l {M : ZM} (i : Int64) : zV M (1, i.toInt) (.long i) := Or.inr (Or.inl ⟨rfl, i, rfl, rfl⟩)
theorem zV_null {M : ZM} {t : Int} (ht : 10 ≤ t) : zV M (t, 0) .null := Or.inr (Or.inr (Or.inl ⟨ht, rfl, rfl⟩))
theorem zV_r {M : ZM} {t a : Int} (ht : 10 ≤ t) (h0 : a ≠ 0) (hm : a % 512 = t) (hd : M.2 a) : zV M (t, a) (.ref (M.1 a)) := Or.inr (Or.inr (Or.inr ⟨ht, h0, hm, hd, rfl⟩))
theorem zV_cat {M : ZM} {v : AV} {x : Value} (h : zV M v x) : x.category = if v.1 = 1 then 2 else 1 := by
  rcases h with ⟨h, i, rfl, -⟩ | ⟨h, i, rfl, -⟩ | ⟨h, -, rfl⟩ | ⟨h, -, -, -, rfl⟩
  · rw [if_neg (by omega)]; rfl
  · rw [if_pos h]; rfl
  · rw [if_neg (by omega)]; rfl
  · rw [if_neg (by omega)]; rfl
/-- more addresses -/
def zExt (M M' : ZM) : Prop := ∀ a, M.2 a → M'.2 a ∧ M'.1 a = M.1 a
theorem zExt.rf (M : ZM) : zExt M M := fun _ h => ⟨h, rfl⟩
theorem zExt.trans {M M' M'' : ZM} (h : zExt M M') (h' : zExt M' M'') : zExt M M'' := fun a ha => ⟨(h' a (h a ha).1).1, (h' a (h a ha).1).2.trans (h a ha).2⟩
theorem zV.ext {M M' : ZM} {v : AV} {x : Value} (h : zV M v x) (he : zExt M M') : zV M' v x := by
  rcases h with h | h | h | ⟨h1, h2, h3, h4, h5⟩
  · exact Or.inl h
  · exact Or.inr (Or.inl h)
  · exact Or.inr (Or.inr (Or.inl h))
  · exact Or.inr (Or.inr (Or.inr ⟨h1, h2, h3, (he _ h4).1, by rw [(he _ h4).2]; exact h5⟩))
/-- the operand stack -/
def zSt (M : ZM) : List AV → List Value → Prop
  | [], [] => True
  | v :: r, x :: s => zV M v x ∧ zSt M r s
  | _, _ => False
theorem zSt.ext {M M' : ZM} (he : zExt M M') : ∀ {st : List AV} {sj : List Value}, zSt M st sj → zSt M' st sj
  | [], [], _ => trivial
  | _ :: _, _ :: _, h => ⟨h.1.ext he, h.2.ext he⟩
  | [], _ :: _, h => h.elim
  | _ :: _, [], h => h.elim
theorem zSt_cons {M : ZM} {v : AV} {r : List AV} {sj : List Value} (h : zSt M (v :: r) sj) : ∃ x s, sj = x :: s ∧ zV M v x ∧ zSt M r s := by
  cases sj with
  | nil => exact h.elim
  | cons x s => exact ⟨x, s, rfl, h.1, h.2⟩
theorem zSt_nil {M : ZM} {sj : List Value} (h : zSt M [] sj) : sj = [] := by
  cases sj with
  | nil => rfl
  | cons x s => exact h.elim
theorem zSt_len {M : ZM} : ∀ {st : List AV} {sj : List Value}, zSt M st sj → sj.length = st.length
  | [], [], _ => rfl
  | _ :: _, _ :: _, h => by rw [List.length_cons, List.length_cons, zSt_len h.2]
  | [], _ :: _, h => h.elim
  | _ :: _, [], h => h.elim
theorem zSt_w {M : ZM} : ∀ {st : List AV} {sj : List Value}, zSt M st sj → (sj.map fun v => v.category).sum = zw st
  | [], [], _ => rfl
  | v :: r, x :: s, h => by
    have h1 := zSt_w h.2
    have h2 := zV_cat h.1
    obtain ⟨t, a⟩ := v
    rw [List.map_cons, List.sum_cons, h1, h2]
    rfl
  | [], _ :: _, h => h.elim
  | _ :: _, [], h => h.elim
theorem zSt_cat {M : ZM} : ∀ {st : List AV} {sj : List Value}, zSt M st sj → (sj.map fun v => v.category).sum ≤ 2 * st.length
  | [], [], _ => by simp
  | v :: r, x :: s, h => by
    have h1 := zSt_cat h.2
    have h2 := zV_cat h.1
    simp only [List.map_cons, List.sum_cons, List.length_cons]
    rw [h2]
    split <;> omega
  | [], _ :: _, h => h.elim
  | _ :: _, [], h => h.elim
theorem zSt_app {M : ZM} : ∀ {a b : List AV} {x y : List Value}, zSt M a x → zSt M b y → zSt M (a ++ b) (x ++ y)
  | [], _, [], _, _, h => h
  | _ :: _, _, _ :: _, _, h, h2 => ⟨h.1, zSt_app h.2 h2⟩
  | [], _, _ :: _, _, h, _ => h.elim
  | _ :: _, _, [], _, h, _ => h.elim
theorem zSt_rev {M : ZM} : ∀ {a : List AV} {x : List Value}, zSt M a x → zSt M a.reverse x.reverse
  | [], [], _ => trivial
  | _ :: _, _ :: _, h => by
    rw [List.reverse_cons, List.reverse_cons]
    exact zSt_app (zSt_rev h.2) ⟨h.1, trivial⟩
  | [], _ :: _, h => h.elim
  | _ :: _, [], h => h.elim
theorem zSt_split {M : ZM} (n : Nat) {st : List AV} {sj : List Value} (h : zSt M st sj) : zSt M (st.take n) (sj.take n) ∧ zSt M (st.drop n) (sj.drop n) := by
  induction n generalizing st sj with
  | zero => exact ⟨trivial, h⟩
  | succ n ih =>
    cases st with
    | nil => rw [zSt_nil h]; exact ⟨trivial, trivial⟩
    | cons v r =>
      obtain ⟨x, s, rfl, hx, hs⟩ := zSt_cons h
      exact ⟨⟨hx, (ih hs).1⟩, (ih hs).2⟩
/-- the locals -/
def zL (M : ZM) (ls : List AV) (lj : Array Slot) : Prop := ∃ l : List (Nat × Value), lv_has lj ls.length l ∧ ∀ (i : Nat) (v : AV), ls[i]? = some v → v.1 ≠ 9 → ∃ x, (i, x) ∈ l ∧ zV M v x
theorem zL.ext {M M' : ZM} {ls : List AV} {lj : Array Slot} (h : zL M ls lj) (he : zExt M M') : zL M' ls lj := by
  obtain ⟨l, h1, h2⟩ := h
  refine ⟨l, h1, fun i v hi hv => ?_⟩
  obtain ⟨x, h3, h4⟩ := h2 i v hi hv
  exact ⟨x, h3, h4.ext he⟩
theorem zget_some {ls : List AV} {i : Int} {t x : Int} (hi : 0 ≤ i) (h : zget ls i = (t, x)) (ht : t ≠ 9) : ls[i.toNat]? = some (t, x) := by
  unfold zget at h
  rw [List.getD_eq_getElem?_getD] at h
  cases hc : ls[i.toNat]? with
  | none => rw [hc] at h; simp at h; omega
  | some v => rw [hc] at h; simp at h; rw [h]
theorem zL_at {M : ZM} {ls : List AV} {lj : Array Slot} (h : zL M ls lj) {i : Nat} {v : AV} (hi : ls[i]? = some v) (hv : v.1 ≠ 9) : ∃ x, lj[i]? = some (.val x) ∧ zV M v x := by
  obtain ⟨l, h1, h2⟩ := h
  obtain ⟨x, h3, h4⟩ := h2 i v hi hv
  exact ⟨x, h1.2.2 (i, x) h3, h4⟩
theorem zst1_len (ls : List AV) (i : Int) (v : AV) : (zst1 ls i v).length = ls.length := by
  unfold zst1 zset zkill
  split <;> simp [zset]
theorem zst2_len (ls : List AV) (i : Int) (v : AV) : (zst2 ls i v).length = ls.length := by
  unfold zst2 zset zkill
  split <;> simp [zset]
theorem zst1_get (ls : List AV) (i j : Nat) (v w : AV) (h : (zst1 ls i v)[j]? = some w) (hw : w.1 ≠ 9) : (j = i ∧ w = v) ∨ (j ≠ i ∧ ls[j]? = some w ∧ ¬ (j + 1 = i ∧ w.1 = 1)) := by
  unfold zst1 zset zkill at h
  by_cases hk : 0 < (i : Int) ∧ (zget ls ((i : Int) - 1)).1 = 1
  · rw [if_pos hk] at h
    simp only [zset, Int.toNat_natCast, List.getElem?_set, List.length_set] at h
    by_cases hj : i = j
    · rw [if_pos hj] at h
      split at h
      · cases h; exact Or.inl ⟨hj.symm, rfl⟩
      · cases h
    · rw [if_neg hj] at h
      by_cases hj2 : ((i : Int) - 1).toNat = j
      · rw [if_pos hj2] at h
        split at h
        · cases h; exact absurd rfl hw
        · cases h
      · rw [if_neg hj2] at h
        exact Or.inr ⟨fun q => hj q.symm, h, fun q => hj2 (by omega)⟩
  · rw [if_neg hk] at h
    simp only [Int.toNat_natCast, List.getElem?_set] at h
    by_cases hj : i = j
    · rw [if_pos hj] at h
      split at h
      · cases h; exact Or.inl ⟨hj.symm, rfl⟩
      · cases h
    · rw [if_neg hj] at h
      refine Or.inr ⟨fun q => hj q.symm, h, fun q => hk ⟨by omega, ?_⟩⟩
      unfold zget
      rw [List.getD_eq_getElem?_getD, show ((i : Int) - 1).toNat = j by omega, h]
      exact q.2
theorem zst2_get (ls : List AV) (i j : Nat) (v w : AV) (h : (zst2 ls i v)[j]? = some w) (hw : w.1 ≠ 9) : (j = i ∧ w = v) ∨ (j ≠ i ∧ j ≠ i + 1 ∧ ls[j]? = some w ∧ ¬ (j + 1 = i ∧ w.1 = 1)) := by
  unfold zst2 at h
  have e : ((i : Int) + 1).toNat = i + 1 := by omega
  have h1 : (zset (zset (zkill ls i) i v) (i + 1) (9, 0))[j]? = (if i + 1 = j then (if j < (zset (zkill ls i) i v).length then some (9, 0) else none) else (zst1 ls i v)[j]?) := by
    show ((zset (zkill ls i) i v).set ((i : Int) + 1).toNat (9, 0))[j]? = _
    rw [e, List.getElem?_set]
    rcases Nat.decEq (i + 1) j with q | q
    · rw [if_neg q, if_neg q]; rfl
    · rw [if_pos q, if_pos q, ← q]
  rw [h1] at h
  by_cases hj : i + 1 = j
  · rw [if_pos hj] at h
    split at h
    · cases h; exact absurd rfl hw
    · cases h
  · rw [if_neg hj] at h
    rcases zst1_get ls i j v w h hw with q | q
    · exact Or.inl q
    · exact Or.inr ⟨q.1, fun z => hj z.symm, q.2⟩
theorem zL_st1 {M : ZM} {ls : List AV} {lj : Array Slot} (h : zL M ls lj) (i : Nat) (v : AV) (x : Value) (hx : zV M v x) {l : List (Nat × Value)} (hl : lv_has lj ls.length l) (hm : ∀ (i : Nat) (v : AV), ls[i]? = some v → v.1 ≠ 9 → ∃ x, (i, x) ∈ l ∧ zV M v x) {lj' : Array Slot} (hl' : lv_has lj' ls.length ((i, x) :: l.filter (fun q => !(q.1 == i) && !(q.1 + 1 == i && q.2.category == 2)))) : zL M (zst1 ls i v) lj' := by
  refine ⟨_, by rw [zst1_len]; exact hl', fun j w hj hw => ?_⟩
  rcases zst1_get ls i j v w hj hw with ⟨rfl, rfl⟩ | ⟨h1, h2, h3⟩
  · exact ⟨x, List.mem_cons_self, hx⟩
  · obtain ⟨y, h4, h5⟩ := hm j w h2 hw
    refine ⟨y, List.mem_cons_of_mem _ (List.mem_filter.mpr ⟨h4, ?_⟩), h5⟩
    have hc := zV_cat h5
    simp only [Bool.and_eq_true, Bool.not_eq_true', beq_eq_false_iff_ne, ne_eq, Bool.and_eq_false_iff]
    refine ⟨h1, ?_⟩
    by_cases hji : j + 1 = i
    · right
      intro hcat
      rw [hc] at hcat
      split at hcat
      · rename_i h6; exact h3 ⟨hji, h6⟩
      · omega
    · left; exact hji
theorem zL_st2 {M : ZM} {ls : List AV} {lj : Array Slot} (i : Nat) (v : AV) (x : Value) (hx : zV M v x) {l : List (Nat × Value)} (hm : ∀ (i : Nat) (v : AV), ls[i]? = some v → v.1 ≠ 9 → ∃ x, (i, x) ∈ l ∧ zV M v x) {lj' : Array Slot} (hl' : lv_has lj' ls.length ((i, x) :: l.filter (fun q => !(q.1 == i) && (!(q.1 == i + 1) && !(q.1 + 1 == i && q.2.category == 2))))) : zL M (zst2 ls i v) lj' := by
  refine ⟨_, by rw [zst2_len]; exact hl', fun j w hj hw => ?_⟩
  rcases zst2_get ls i j v w hj hw with ⟨rfl, rfl⟩ | ⟨h1, h1b, h2, h3⟩
  · exact ⟨x, List.mem_cons_self, hx⟩
  · obtain ⟨y, h4, h5⟩ := hm j w h2 hw
    refine ⟨y, List.mem_cons_of_mem _ (List.mem_filter.mpr ⟨h4, ?_⟩), h5⟩
    have hc := zV_cat h5
    simp only [Bool.and_eq_true, Bool.not_eq_true', beq_eq_false_iff_ne, ne_eq, Bool.and_eq_false_iff]
    refine ⟨h1, h1b, ?_⟩
    by_cases hji : j + 1 = i
    · right
      intro hcat
      rw [hc] at hcat
      split at hcat
      · rename_i h6; exact h3 ⟨hji, h6⟩
      · omega
    · left; exact hji
