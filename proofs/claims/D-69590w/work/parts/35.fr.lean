-- uses: 34
/-! X's runs leave M's places as they are, M's runs X's -/
def isMt (t : Int) : Bool := decide (34 ≤ t ∧ t ≤ 36 ∨ 114 ≤ t ∧ t ≤ 213)
def zXM (S S' : Sto) : Prop := ∀ b, isMt (ztg b) = true → S' b = S b
def zMX (S S' : Sto) : Prop := ∀ b, isMt (ztg b) = false → S' b = S b
theorem zXM.rf (S : Sto) : zXM S S := fun _ _ => rfl
theorem zMX.rf (S : Sto) : zMX S S := fun _ _ => rfl
theorem zXM.tr {S S' S'' : Sto} (h : zXM S S') (g : zXM S' S'') : zXM S S'' := fun b q => (g b q).trans (h b q)
theorem zMX.tr {S S' S'' : Sto} (h : zMX S S') (g : zMX S' S'') : zMX S S'' := fun b q => (g b q).trans (h b q)
theorem zFr.xm {W : List (Int × Int)} {S S' : Sto} (h : zFr W S S') (hw : W.all (fun e => !isMt e.1) = true) : zXM S S' := by
  intro b hb
  funext x
  apply h b x
  cases hv : zinW W (ztg b) x with
  | false => rfl
  | true =>
    unfold zinW at hv
    rw [List.any_eq_true] at hv
    obtain ⟨e, h1, h2⟩ := hv
    have h3 := List.all_eq_true.mp hw e h1
    rw [Bool.and_eq_true, beq_iff_eq] at h2
    rw [h2.1, hb] at h3
    cases h3
theorem zFr.mx {W : List (Int × Int)} {S S' : Sto} (h : zFr W S S') (hw : W.all (fun e => isMt e.1) = true) : zMX S S' := by
  intro b hb
  funext x
  apply h b x
  cases hv : zinW W (ztg b) x with
  | false => rfl
  | true =>
    unfold zinW at hv
    rw [List.any_eq_true] at hv
    obtain ⟨e, h1, h2⟩ := hv
    have h3 := List.all_eq_true.mp hw e h1
    rw [Bool.and_eq_true, beq_iff_eq] at h2
    rw [h2.1, hb] at h3
    cases h3
/-- a run: it ends so -/
def zR (k ml : Nat) (as : List AV) (S S' : Sto) (r : AV) : Prop := ∀ Q : ZQ, zCall Cd k ml as S Q = Q S' r
theorem zR.fr {k ml : Nat} {as : List AV} {S S' : Sto} {r : AV} (h : zR k ml as S S' r) : zFr (zWk k) S S' := by
  have h1 : zCall Cd k ml as S (fun S' _ => zFr (zWk k) S S') := by
    apply zCall_fr
    rw [h]
    exact fun h => h
  rw [h] at h1
  exact h1
theorem ML.fr {S S' : Sto} {L : Led} (h : ML S L) (e : zXM S S') : ML S' L := by
  have e34 := e 34 rfl
  have e122 := e 122 rfl
  have e123 := e 123 rfl
  have e124 := e 124 rfl
  have e125 := e 125 rfl
  have e126 := e 126 rfl
  have e127 := e 127 rfl
  have e128 := e 128 rfl
  have e129 := e 129 rfl
  have e130 := e 130 rfl
  have e131 := e 131 rfl
  have e132 := e 132 rfl
  have e133 := e 133 rfl
  obtain ⟨h_made, h_endw, h_ad, h_md, h_sp, h_kd, h_ds, h_po, h_na, h_am, h_da, h_ht, h_ud, h_bg, h_pts, h_aps, h_tks⟩ := h
  apply ML.mk1 <;> simp only [e34, e122, e123, e124, e125, e126, e127, e128, e129, e130, e131, e132, e133] <;> assumption
theorem XL.fr {S S' : Sto} {L : Led} (h : XL S L) (e : zMX S S') : XL S' L := by
  have e11 := e 11 rfl
  have e12 := e 12 rfl
  have e13 := e 13 rfl
  have e52 := e 52 rfl
  have e53 := e 53 rfl
  have e54 := e 54 rfl
  have e55 := e 55 rfl
  have e56 := e 56 rfl
  have e57 := e 57 rfl
  have e58 := e 58 rfl
  have e59 := e 59 rfl
  have e60 := e 60 rfl
  have e61 := e 61 rfl
  have e62 := e 62 rfl
  have e63 := e 63 rfl
  have e64 := e 64 rfl
  have e65 := e 65 rfl
  have e66 := e 66 rfl
  obtain ⟨h_size, h_lives, h_ad, h_md, h_sp, h_kd, h_ds, h_po, h_na, h_am, h_da, h_lsz, h_ssz, h_tks, h_sb, h_ob, h_pt, h_tk, h_se, h_ht, h_ud, h_bg, h_pot, h_mr⟩ := h
  apply XL.mk1 <;> simp only [e11, e12, e13, e52, e53, e54, e55, e56, e57, e58, e59, e60, e61, e62, e63, e64, e65, e66] <;> assumption
