/-! FRAMES: a method leaves all alone that is not in its write set -/
def ztg (a : Int) : Int := if 0 < a % 512 ∧ a % 512 < 256 then a % 512 else 0
def zwok (W : List (Int × Int)) (t f : Int) : Bool := decide (0 < t ∧ t < 256) && zinW W t f
def zwchk (W : List (Int × Int)) (i : Ins) : Bool := match i with
  | (.putfield _, [ct, k, _, _]) => zwok W ct k
  | (.iastore, [t, _]) => zwok W t (-1)
  | (.bastore, [t, _, _]) => zwok W t (-1)
  | (.sastore, [t, _]) => zwok W t (-1)
  | (.lastore, [t, _]) => zwok W t (-1)
  | (.aastore, [t, _, _]) => zwok W t (-1)
  | (.new _, [t, n]) => zwok W t (-1) && zinW W 0 (-1) && decide (0 ≤ n)
  | (.newarray _, [t, _]) => zwok W t (-1) && zinW W 0 (-1)
  | (.anewarray _, [t, _]) => zwok W t (-1) && zinW W 0 (-1)
  | (.invokestatic _, [_, _, t, _]) => zwok W t (-1)
  | (.nop, [c, n]) => zinW W 0 (-1) && decide (0 ≤ c ∧ 0 ≤ n)
  | (.getfield _, [ct, f, _, off]) => zFT.any (fun e => e.1 == ct && e.2.1 == f && e.2.2 == off)
  | _ => true
def zFr (W : List (Int × Int)) (S S' : Sto) : Prop := ∀ a x, zinW W (ztg a) x = false → S' a x = S a x
theorem zFr.rf (W : List (Int × Int)) (S : Sto) : zFr W S S := fun _ _ _ => rfl
theorem zFr.tr {W : List (Int × Int)} {S S' S'' : Sto} (h : zFr W S S') (g : zFr W S' S'') : zFr W S S'' := fun a x q => (g a x q).trans (h a x q)
theorem zinW_m1 {W : List (Int × Int)} {t : Int} (h : zinW W t (-1) = true) (x : Int) : zinW W t x = true := by
  unfold zinW at h ⊢
  rw [List.any_eq_true] at h ⊢
  obtain ⟨e, h1, h2⟩ := h
  refine ⟨e, h1, ?_⟩
  simp only [Bool.and_eq_true, Bool.or_eq_true, beq_iff_eq, or_self] at h2 ⊢
  exact ⟨h2.1, Or.inl h2.2⟩
theorem zinW_sub {V W : List (Int × Int)} (h : V.all (fun e => zinW W e.1 e.2) = true) {t x : Int} (hx : zinW W t x = false) : zinW V t x = false := by
  cases hv : zinW V t x with
  | false => rfl
  | true =>
    unfold zinW at hv
    rw [List.any_eq_true] at hv
    obtain ⟨e, h1, h2⟩ := hv
    simp only [Bool.and_eq_true, Bool.or_eq_true, beq_iff_eq] at h2
    have h3 := List.all_eq_true.mp h e h1
    obtain ⟨h4, h5⟩ := h2
    rw [h4] at h3
    rcases h5 with h5 | h5
    · rw [h5] at h3
      rw [zinW_m1 h3 x] at hx
      cases hx
    · rw [h5, hx] at h3
      cases h3
theorem ztg_of {a t : Int} (h : a % 512 = t) (h0 : 0 < t) (h1 : t < 256) : ztg a = t := by
  unfold ztg
  rw [if_pos (by omega), h]
theorem zfr_up {W : List (Int × Int)} {S : Sto} {b k v t : Int} (hb : b % 512 = t) (h : zwok W t k = true) : zFr W S (up S b k v) := by
  intro a x hx
  unfold zwok at h
  simp only [Bool.and_eq_true, decide_eq_true_eq] at h
  unfold up
  by_cases e : a = b ∧ x = k
  · obtain ⟨rfl, rfl⟩ := e
    rw [ztg_of hb h.1.1 h.1.2, h.2] at hx
    cases hx
  · rw [if_neg e]
theorem zfr_up1 {W : List (Int × Int)} {S : Sto} {b k v t : Int} (hb : b % 512 = t) (h : zwok W t (-1) = true) : zFr W S (up S b k v) := by
  refine zfr_up (t := t) hb ?_
  unfold zwok at h ⊢
  rw [Bool.and_eq_true] at h ⊢
  exact ⟨h.1, zinW_m1 h.2 k⟩
theorem zfr_zz {W : List (Int × Int)} {S : Sto} {b t : Int} (hb : b % 512 = t) (h : zwok W t (-1) = true) : zFr W S (zz S b) := by
  intro a x hx
  unfold zwok at h
  simp only [Bool.and_eq_true, decide_eq_true_eq] at h
  unfold zz
  by_cases e : a = b
  · subst e
    rw [ztg_of hb h.1.1 h.1.2, zinW_m1 h.2 x] at hx
    cases hx
  · rw [if_neg e]
theorem zfr_up0 {W : List (Int × Int)} {S : Sto} {b k v : Int} (hb : ztg b = 0) (h : zinW W 0 (-1) = true) : zFr W S (up S b k v) := by
  intro a x hx
  unfold up
  by_cases e : a = b ∧ x = k
  · obtain ⟨rfl, rfl⟩ := e
    rw [hb, zinW_m1 h x] at hx
    cases hx
  · rw [if_neg e]
theorem zfr_cnt {W : List (Int × Int)} {S : Sto} {t n : Int} (h : zwok W t (-1) = true) (h0 : zinW W 0 (-1) = true) : zFr W S (zcnt S t n) := by
  unfold zwok at h
  simp only [Bool.and_eq_true, decide_eq_true_eq] at h
  unfold zcnt
  refine ((zfr_up0 ?_ h0).tr (zfr_up0 rfl h0)).tr (zfr_up0 rfl h0)
  unfold ztg
  rw [if_neg (by omega)]
theorem zfr_cpy {W : List (Int × Int)} {S : Sto} {s sp d dp n t : Int} (hb : d % 512 = t) (h : zwok W t (-1) = true) : zFr W S (zcpy S s sp d dp n) := by
  intro a x hx
  unfold zwok at h
  simp only [Bool.and_eq_true, decide_eq_true_eq] at h
  unfold zcpy
  by_cases e : a = d ∧ dp ≤ x ∧ x < dp + n
  · obtain ⟨rfl, -⟩ := e
    rw [ztg_of hb h.1.1 h.1.2, zinW_m1 h.2 x] at hx
    cases hx
  · rw [if_neg e]
theorem zadr_mod {t n0 n c : Int} (h : 0 < t ∧ t < 256) : zadr t n0 n c % 512 = t := by
  unfold zadr
  split <;> omega
theorem zstep_fr {W : List (Int × Int)} {i1 : Jvm.ClassFile.Instr} {i2 : List Int} {ls st ls' st' : List AV} {S S' : Sto} {j : Option Int} (hs : zstep (i1, i2) ls st S = some (j, ls', st', S')) (hw : zwchk W (i1, i2) = true) : zFr W S S' := by
  unfold zstep at hs
  simp only at hs
  split at hs <;>
    first
    | (simp only [zpush, zload, zstore, zbin, zun, zdup, zdup2, zj1, zj2, zja1, zja2, zsw, zgetf, zgetc, zald, zalen, zobj, zord] at hs
       (repeat' split at hs) <;> first
         | (cases hs; done)
         | (simp only [Option.some.injEq, Prod.mk.injEq] at hs; obtain ⟨-, -, -, rfl⟩ := hs; exact zFr.rf _ _))
    | (simp only [zputf] at hs
       (repeat' split at hs) <;> first
         | (cases hs; done)
         | (rename_i hc; simp only [Option.some.injEq, Prod.mk.injEq] at hs; obtain ⟨-, -, -, rfl⟩ := hs; exact zfr_up hc.2.2.1 hw))
    | (simp only [zast] at hs
       (repeat' split at hs) <;> first
         | (cases hs; done)
         | (rename_i hc; simp only [Option.some.injEq, Prod.mk.injEq] at hs; obtain ⟨-, -, -, rfl⟩ := hs; exact zfr_up1 hc.2.2.2.1 hw))
    | (simp only [znew] at hs
       (repeat' split at hs) <;> first
         | (cases hs; done)
         | (simp only [Option.some.injEq, Prod.mk.injEq] at hs; obtain ⟨-, -, -, rfl⟩ := hs
            simp only [zwchk, Bool.and_eq_true] at hw
            have hw2 := hw.1.1
            unfold zwok at hw2
            simp only [Bool.and_eq_true, decide_eq_true_eq] at hw2
            exact (zfr_zz (by omega) hw.1.1).tr (zfr_cnt hw.1.1 hw.1.2)))
    | (simp only [znewa] at hs
       (repeat' split at hs) <;> first
         | (cases hs; done)
         | (simp only [Option.some.injEq, Prod.mk.injEq] at hs; obtain ⟨-, -, -, rfl⟩ := hs
            simp only [zwchk, Bool.and_eq_true] at hw
            have hw2 := hw.1
            unfold zwok at hw2
            simp only [Bool.and_eq_true, decide_eq_true_eq] at hw2
            exact (zfr_zz (zadr_mod hw2.1) hw.1).tr (zfr_cnt hw.1 hw.2)))
    | (simp only [zacpy] at hs
       (repeat' split at hs) <;> first
         | (cases hs; done)
         | (rename_i hc; simp only [Option.some.injEq, Prod.mk.injEq] at hs; obtain ⟨-, -, -, rfl⟩ := hs; exact zfr_cpy hc.2.2.2.2.2.2.1 hw))
    | (simp only [Option.some.injEq, Prod.mk.injEq] at hs; obtain ⟨-, -, -, rfl⟩ := hs; simp only [zwchk, Bool.and_eq_true] at hw; exact (zfr_up0 rfl hw.1).tr (zfr_up0 rfl hw.1))
    | ((repeat' split at hs) <;> first
         | (cases hs; done)
         | (simp only [zpush, Option.some.injEq, Prod.mk.injEq] at hs; obtain ⟨-, -, -, rfl⟩ := hs; exact zFr.rf _ _))
def zcchk (k : Nat) (i : Ins) : Bool := match zcall i with
  | some (c, _) => (zWk c).all (fun e => zinW (zWk k) e.1 e.2)
  | none => true
def zichk (k : Nat) (i : Ins) : Bool := zwchk (zWk k) i && zcchk k i
def zmchk (k : Nat) : Bool := ((Kall.getD (k / 20) []).getD (k % 20) []).all (fun e => e.2.all (zichk k))

theorem zinW_nil (t x : Int) : zinW [] t x = false := rfl
theorem zmo_up {S : Sto} {b k v t : Int} {W : List (Int × Int)} (hb : b % 512 = t) (h : zwok W t k = true) (j : Int) : up S b k v 0 j = S 0 j := by
  unfold zwok at h
  simp only [Bool.and_eq_true, decide_eq_true_eq] at h
  unfold up
  rw [if_neg (by rintro ⟨rfl, -⟩; omega)]
theorem zmo_zz {S : Sto} {b t k : Int} {W : List (Int × Int)} (hb : b % 512 = t) (h : zwok W t k = true) (j : Int) : zz S b 0 j = S 0 j := by
  unfold zwok at h
  simp only [Bool.and_eq_true, decide_eq_true_eq] at h
  unfold zz
  rw [if_neg (by intro e; omega)]
theorem zmo_cnt {S : Sto} {t k n : Int} {W : List (Int × Int)} (h : zwok W t k = true) (hn : 0 ≤ n) : S 0 0 ≤ zcnt S t n 0 0 ∧ S 0 1 ≤ zcnt S t n 0 1 := by
  unfold zwok at h
  simp only [Bool.and_eq_true, decide_eq_true_eq] at h
  have e : ¬ (0 : Int) = -t := by omega
  simp [zcnt, up, e]
  omega
theorem zmo_new {S : Sto} {t k n b : Int} {W : List (Int × Int)} (h : zwok W t k = true) (hn : 0 ≤ n) (hb : b % 512 = t) : S 0 0 ≤ zcnt (zz S b) t n 0 0 ∧ S 0 1 ≤ zcnt (zz S b) t n 0 1 := by
  have g := zmo_cnt (S := zz S b) h hn
  rw [zmo_zz hb h, zmo_zz hb h] at g
  exact g
theorem zmo_cpy {S : Sto} {s sp d dp n t k : Int} {W : List (Int × Int)} (hb : d % 512 = t) (h : zwok W t k = true) (j : Int) : zcpy S s sp d dp n 0 j = S 0 j := by
  unfold zwok at h
  simp only [Bool.and_eq_true, decide_eq_true_eq] at h
  unfold zcpy
  rw [if_neg (by rintro ⟨e, -⟩; omega)]
theorem zstep_mo {W : List (Int × Int)} {i1 : Jvm.ClassFile.Instr} {i2 : List Int} {ls st ls' st' : List AV} {S S' : Sto} {j : Option Int} (hs : zstep (i1, i2) ls st S = some (j, ls', st', S')) (hw : zwchk W (i1, i2) = true) : S 0 0 ≤ S' 0 0 ∧ S 0 1 ≤ S' 0 1 := by
  unfold zstep at hs
  simp only at hs
  split at hs <;>
    first
    | (simp only [zpush, zload, zstore, zbin, zun, zdup, zdup2, zj1, zj2, zja1, zja2, zsw, zgetf, zgetc, zald, zalen, zobj, zord] at hs
       (repeat' split at hs) <;> first
         | (cases hs; done)
         | (simp only [Option.some.injEq, Prod.mk.injEq] at hs; obtain ⟨-, -, -, rfl⟩ := hs; exact ⟨Int.le_refl _, Int.le_refl _⟩))
    | (simp only [zputf] at hs
       (repeat' split at hs) <;> first
         | (cases hs; done)
         | (rename_i hc; simp only [Option.some.injEq, Prod.mk.injEq] at hs; obtain ⟨-, -, -, rfl⟩ := hs
            rw [zmo_up hc.2.2.1 hw, zmo_up hc.2.2.1 hw]; exact ⟨Int.le_refl _, Int.le_refl _⟩))
    | (simp only [zast] at hs
       (repeat' split at hs) <;> first
         | (cases hs; done)
         | (rename_i hc; simp only [Option.some.injEq, Prod.mk.injEq] at hs; obtain ⟨-, -, -, rfl⟩ := hs
            have hw2 := fun x => (show zwok W _ x = true from by
              have hw3 : zwok W _ (-1) = true := hw
              unfold zwok at hw3 ⊢
              rw [Bool.and_eq_true] at hw3 ⊢
              exact ⟨hw3.1, zinW_m1 hw3.2 x⟩)
            rw [zmo_up hc.2.2.2.1 (hw2 _), zmo_up hc.2.2.2.1 (hw2 _)]; exact ⟨Int.le_refl _, Int.le_refl _⟩))
    | (simp only [znew] at hs
       (repeat' split at hs) <;> first
         | (cases hs; done)
         | (simp only [Option.some.injEq, Prod.mk.injEq] at hs; obtain ⟨-, -, -, rfl⟩ := hs
            simp only [zwchk, Bool.and_eq_true, decide_eq_true_eq] at hw
            have hw2 := hw.1.1
            unfold zwok at hw2
            simp only [Bool.and_eq_true, decide_eq_true_eq] at hw2
            exact zmo_new hw.1.1 hw.2 (by omega)))
    | (simp only [znewa] at hs
       (repeat' split at hs) <;> first
         | (cases hs; done)
         | (rename_i hc; simp only [Option.some.injEq, Prod.mk.injEq] at hs; obtain ⟨-, -, -, rfl⟩ := hs
            simp only [zwchk, Bool.and_eq_true] at hw
            have hw2 := hw.1
            unfold zwok at hw2
            simp only [Bool.and_eq_true, decide_eq_true_eq] at hw2
            exact zmo_new hw.1 hc.2.1 (zadr_mod hw2.1)))
    | (simp only [zacpy] at hs
       (repeat' split at hs) <;> first
         | (cases hs; done)
         | (rename_i hc; simp only [Option.some.injEq, Prod.mk.injEq] at hs; obtain ⟨-, -, -, rfl⟩ := hs
            have hw2 : zwok W _ (-1) = true := hw
            rw [zmo_cpy hc.2.2.2.2.2.2.1 hw2, zmo_cpy hc.2.2.2.2.2.2.1 hw2]; exact ⟨Int.le_refl _, Int.le_refl _⟩))
    | (simp only [Option.some.injEq, Prod.mk.injEq] at hs; obtain ⟨-, -, -, rfl⟩ := hs; simp only [zwchk, Bool.and_eq_true, decide_eq_true_eq] at hw; simp [up]; omega)
    | ((repeat' split at hs) <;> first
         | (cases hs; done)
         | (simp only [zpush, Option.some.injEq, Prod.mk.injEq] at hs; obtain ⟨-, -, -, rfl⟩ := hs; exact ⟨Int.le_refl _, Int.le_refl _⟩))
