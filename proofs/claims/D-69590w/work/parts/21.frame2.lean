/-! FRAMES 2 -/
theorem zex_fr : ∀ (n k : Nat) (is : List Ins) (ls st : List AV) (S S' : Sto) (r : AV), (∀ i ∈ is, zichk k i = true) → zex Cd n k is ls st S = some (S', r) → zFr (zWk k) S S' := by
  intro n
  induction n with
  | zero => intro k is ls st S S' r _ h; simp [zex] at h
  | succ n ih =>
    intro k is ls st S S' r hok h
    cases is with
    | nil => simp [zex] at h
    | cons i is =>
      have hi := hok i List.mem_cons_self
      have his : ∀ j ∈ is, zichk k j = true := fun j hj => hok j (List.mem_cons_of_mem _ hj)
      unfold zichk at hi
      rw [Bool.and_eq_true] at hi
      obtain ⟨hi1, hi2⟩ := hi
      obtain ⟨i1, i2⟩ := i
      rw [zex] at h
      cases hc : zcall (i1, i2) with
      | some q =>
        obtain ⟨cid, na, ml, rc, hl⟩ := q
        rw [hc] at h
        simp only at h
        unfold zcchk at hi2
        rw [hc] at hi2
        simp only at hi2
        split at h
        · cases hz : zex Cd n cid (Cd cid 0) (zloc ml (st.take na).reverse) [] S with
          | none => rw [hz] at h; cases h
          | some y =>
            obtain ⟨S1, r1⟩ := y
            rw [hz] at h
            simp only at h
            have g1 : zFr (zWk k) S S1 := fun a x hx => ih _ _ _ _ _ _ _ (zmk_blk cid 0) hz a x (zinW_sub hi2 hx)
            split at h
            · split at h
              · cases h
              · exact g1.tr (ih _ _ _ _ _ _ _ (zmk_blk k _) h)
            · exact g1.tr (ih _ _ _ _ _ _ _ his h)
        · cases h
      | none =>
        rw [hc] at h
        simp only at h
        cases hr : zret (i1, i2) st with
        | some r' =>
          rw [hr] at h
          simp only [Option.some.injEq, Prod.mk.injEq] at h
          obtain ⟨rfl, -⟩ := h
          exact zFr.rf _ _
        | none =>
          rw [hr] at h
          simp only at h
          cases hs : zstep (i1, i2) ls st S with
          | none => rw [hs] at h; cases h
          | some y =>
            obtain ⟨j, ls', st', S1⟩ := y
            rw [hs] at h
            have g1 := zstep_fr hs hi1
            cases j with
            | none => exact g1.tr (ih _ _ _ _ _ _ _ his h)
            | some t => exact g1.tr (ih _ _ _ _ _ _ _ (zmk_blk k t) h)
theorem zCall_fr {k ml : Nat} {as : List AV} {S : Sto} {Q : ZQ} (h : zCall Cd k ml as S (fun S' r => zFr (zWk k) S S' → Q S' r)) : zCall Cd k ml as S Q := by
  obtain ⟨n, S', r, h1, h2⟩ := h
  exact ⟨n, S', r, h1, h2 (zex_fr _ _ _ _ _ _ _ _ (zmk_blk k 0) h1)⟩
def zinT (W : List (Int × Int)) (t : Int) : Bool := W.any (fun e => e.1 == t)
theorem zinT_of {W : List (Int × Int)} {t : Int} (h : zinT W t = false) (x : Int) : zinW W t x = false := by
  cases hv : zinW W t x with
  | false => rfl
  | true =>
    unfold zinW at hv
    rw [List.any_eq_true] at hv
    obtain ⟨e, h1, h2⟩ := hv
    rw [Bool.and_eq_true] at h2
    have : zinT W t = true := List.any_eq_true.mpr ⟨e, h1, h2.1⟩
    rw [h] at this
    cases this
/-- all of a kind of object or array stays -/
theorem zFr.at {W : List (Int × Int)} {S S' : Sto} (h : zFr W S S') (t : Int) (hw : (decide (0 < t ∧ t < 256) && !zinT W t) = true) {a : Int} (ha : a % 512 = t) (x : Int) : S' a x = S a x := by
  simp only [Bool.and_eq_true, decide_eq_true_eq, Bool.not_eq_true'] at hw
  exact h a x (by rw [ztg_of ha hw.1.1 hw.1.2]; exact zinT_of hw.2 x)
/-- one field of a kind of object stays -/
theorem zFr.fld {W : List (Int × Int)} {S S' : Sto} (h : zFr W S S') (t x : Int) (hw : (decide (0 < t ∧ t < 256) && !zinW W t x) = true) {a : Int} (ha : a % 512 = t) : S' a x = S a x := by
  simp only [Bool.and_eq_true, decide_eq_true_eq, Bool.not_eq_true'] at hw
  exact h a x (by rw [ztg_of ha hw.1.1 hw.1.2]; exact hw.2)
/-- counters stay -/
theorem zFr.cnt {W : List (Int × Int)} {S S' : Sto} (h : zFr W S S') (hw : zinT W 0 = false) {a : Int} (ha : a % 512 = 0 ∨ 256 ≤ a % 512) (x : Int) : S' a x = S a x := by
  refine h a x ?_
  unfold ztg
  rw [if_neg (by omega)]
  exact zinT_of hw x
/-! constant fields -/
def zFz (S : Sto) : Prop := ∀ e ∈ zFT, ∀ a, a % 512 = e.1 → S a e.2.1 = a + e.2.2
theorem zFT_tags : ∀ e ∈ zFT, 0 < e.1 ∧ e.1 < 256 := by decide +kernel
theorem zFz.keep {W : List (Int × Int)} {S S' : Sto} (hW : zFT.all (fun e => !zinW W e.1 e.2.1) = true) (h : zFr W S S') (hf : zFz S) : zFz S' := by
  intro e he a ha
  have ht := zFT_tags e he
  have hw := List.all_eq_true.mp hW e he
  simp only [Bool.not_eq_true'] at hw
  rw [h a e.2.1 (by rw [ztg_of ha ht.1 ht.2]; exact hw)]
  exact hf e he a ha
theorem zinW_mono {V W : List (Int × Int)} (h : V.all (fun e => zinW W e.1 e.2) = true) (hW : zFT.all (fun e => !zinW W e.1 e.2.1) = true) : zFT.all (fun e => !zinW V e.1 e.2.1) = true := by
  rw [List.all_eq_true] at hW ⊢
  intro e he
  have := hW e he
  simp only [Bool.not_eq_true'] at this ⊢
  exact zinW_sub h this
theorem zun4_step {W : List (Int × Int)} {i1 : Jvm.ClassFile.Instr} {i2 : List Int} {ls st : List AV} {S : Sto} {x : Option Int × ZS} (hf : zFz S) (hw : zwchk W (i1, i2) = true) (hs : zstep (i1, i2) ls st S = some x) : zstep (zun4 (i1, i2)) ls st S = some x := by
  unfold zun4
  split
  · rename_i y a b c d heq
    rw [Prod.mk.injEq] at heq
    obtain ⟨rfl, rfl⟩ := heq
    simp only [zwchk, List.any_eq_true, Bool.and_eq_true, beq_iff_eq] at hw
    obtain ⟨e, he, ⟨h1, h2⟩, h3⟩ := hw
    simp only [zstep, zgetc] at hs
    simp only [zstep, zgetf]
    split at hs
    · rename_i tc ad rest
      split at hs
      · rename_i hc
        rw [if_pos hc, ← hs]
        have := hf e he ad (by rw [h1]; exact hc.2)
        rw [h2, h3] at this
        rw [this]
      · cases hs
    · cases hs
  · exact hs
theorem zun4_call (i : Ins) : zcall (zun4 i) = zcall i := by
  unfold zun4
  split <;> rfl
theorem zun4_ret (i : Ins) (st : List AV) : zret (zun4 i) st = zret i st := by
  unfold zun4
  split <;> rfl
theorem zex_fz : ∀ (n k : Nat) (is : List Ins) (ls st : List AV) (S S' : Sto) (r : AV), (∀ i ∈ is, zichk k i = true) → zNI k = true → zFz S → zex Cd n k is ls st S = some (S', r) → zex Cs n k (is.map zun4) ls st S = some (S', r) := by
  intro n
  induction n with
  | zero => intro k is ls st S S' r _ _ _ h; simp [zex] at h
  | succ n ih =>
    intro k is ls st S S' r hok hni hf h
    cases is with
    | nil => simp [zex] at h
    | cons i is =>
      have hi := hok i List.mem_cons_self
      have his : ∀ j ∈ is, zichk k j = true := fun j hj => hok j (List.mem_cons_of_mem _ hj)
      unfold zichk at hi
      rw [Bool.and_eq_true] at hi
      obtain ⟨hi1, hi2⟩ := hi
      obtain ⟨i1, i2⟩ := i
      rw [zex] at h
      rw [List.map_cons, zex, zun4_call, zun4_ret]
      cases hc : zcall (i1, i2) with
      | some q =>
        obtain ⟨cid, na, ml, rc, hl⟩ := q
        rw [hc] at h
        simp only at h ⊢
        unfold zcchk at hi2
        rw [hc] at hi2
        simp only at hi2
        split at h
        · rename_i hcond
          rw [if_pos hcond]
          cases hz : zex Cd n cid (Cd cid 0) (zloc ml (st.take na).reverse) [] S with
          | none => rw [hz] at h; cases h
          | some y =>
            obtain ⟨S1, r1⟩ := y
            rw [hz] at h
            simp only at h
            have hni2 : zNI cid = true := zinW_mono hi2 hni
            have e1 : zex Cs n cid (Cs cid 0) (zloc ml (st.take na).reverse) [] S = some (S1, r1) := ih _ _ _ _ _ _ _ (zmk_blk cid 0) hni2 hf hz
            have hf1 : zFz S1 := hf.keep hni2 (zex_fr _ _ _ _ _ _ _ _ (zmk_blk cid 0) hz)
            rw [e1]
            simp only
            split at h
            · rename_i h8
              rw [if_pos h8]
              split at h
              · cases h
              · exact ih _ _ _ _ _ _ _ (zmk_blk k _) hni hf1 h
            · rename_i h8
              rw [if_neg h8]
              exact ih _ _ _ _ _ _ _ his hni hf1 h
        · cases h
      | none =>
        rw [hc] at h
        simp only at h ⊢
        cases hr : zret (i1, i2) st with
        | some r' => rw [hr] at h; simp only at h ⊢; exact h
        | none =>
          rw [hr] at h
          simp only at h ⊢
          cases hs : zstep (i1, i2) ls st S with
          | none => rw [hs] at h; cases h
          | some y =>
            obtain ⟨j, ls', st', S1⟩ := y
            rw [hs] at h
            rw [zun4_step hf hi1 hs]
            have hf1 : zFz S1 := hf.keep hni (zstep_fr hs hi1)
            cases j with
            | none => simp only at h ⊢; exact ih _ _ _ _ _ _ _ his hni hf1 h
            | some t => simp only at h ⊢; exact ih _ _ _ _ _ _ _ (zmk_blk k t) hni hf1 h
theorem zCall_fz {k ml : Nat} {as : List AV} {S : Sto} {Q : ZQ} (hni : zNI k = true) (hf : zFz S) (h : zCall Cd k ml as S Q) : zCall Cs k ml as S (fun S' r => Q S' r ∧ zFz S' ∧ zFr (zWk k) S S') := by
  obtain ⟨n, S', r, h1, h2⟩ := h
  have hfr := zex_fr _ _ _ _ _ _ _ _ (zmk_blk k 0) h1
  exact ⟨n, S', r, zex_fz _ _ _ _ _ _ _ _ (zmk_blk k 0) hni hf h1, h2, hf.keep hni hfr, hfr⟩
