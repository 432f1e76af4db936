/-! SOUNDNESS 5: new things, statics, Object's constructor, ordinals, arraycopy -/
theorem zz_ne (S : Sto) {a b j : Int} (h : b ≠ a) : zz S a b j = S b j := by
  unfold zz
  rw [if_neg h]
theorem zcnt_pos (S : Sto) {t n b j : Int} (h : b ≠ 0) (h2 : b ≠ -t) : zcnt S t n b j = S b j := by
  unfold zcnt
  rw [up_ne _ h, up_ne _ h, up_ne _ h2]
theorem zcnt_c (S : Sto) {t n : Int} (h : t ≠ 0) : zcnt S t n (-t) 0 = S (-t) 0 + 1 := by
  unfold zcnt
  rw [up_ne _ (by omega), up_ne _ (by omega), up_same]
theorem zcnt_0 (S : Sto) {t n : Int} (h : t ≠ 0) : zcnt S t n 0 0 = S 0 0 + 1 := by
  unfold zcnt
  rw [up_idx _ (by omega), up_same]
theorem zcnt_1 (S : Sto) {t n : Int} (h : t ≠ 0) : zcnt S t n 0 1 = S 0 1 + n := by
  unfold zcnt
  rw [up_same]
theorem zcnt_le (S : Sto) {t n : Int} (h : t ≠ 0) (u : Int) (hu : u < 0) : S u 0 ≤ zcnt S t n u 0 := by
  by_cases e : u = -t
  · rw [e, zcnt_c S h]; omega
  · rw [zcnt_pos S (by omega) e]; omega
theorem zdef {M : ZM} {ty : FieldType} {g : Int} (h : zfok ty g = true) : zV M (g, 0) (defaultValue ty) := by
  cases ty with
  | int => have hg : g = 0 := by simpa [zfok] using h
           subst hg; exact zV_i 0
  | boolean => have hg : g = 0 := by simpa [zfok] using h
               subst hg; exact zV_i 0
  | long => have hg : g = 1 := by simpa [zfok] using h
            subst hg; exact zV_l 0
  | object C => exact zV_null (by simpa [zfok] using h)
  | array t => exact zV_null (by simpa [zfok] using h)
  | byte => simp [zfok] at h
  | char => simp [zfok] at h
  | short => simp [zfok] at h
  | float => simp [zfok] at h
  | double => simp [zfok] at h
/-- an array's component type and tag -/
def zaok (ty : FieldType) (g : Int) : Bool := match ty with
  | .int => g == 0
  | .byte => g == 0
  | .short => g == 0
  | .boolean => g == 0
  | .long => g == 1
  | .object _ => decide (10 ≤ g)
  | _ => false
theorem zdefa {M : ZM} {ty : FieldType} {g : Int} (h : zaok ty g = true) : zV M (g, 0) (defaultValue ty) ∧ fits ty (defaultValue ty) = true := by
  cases ty with
  | int => have hg : g = 0 := by simpa [zaok] using h
           subst hg; exact ⟨zV_i 0, rfl⟩
  | byte => have hg : g = 0 := by simpa [zaok] using h
            subst hg; exact ⟨zV_i 0, by decide⟩
  | short => have hg : g = 0 := by simpa [zaok] using h
             subst hg; exact ⟨zV_i 0, by decide⟩
  | boolean => have hg : g = 0 := by simpa [zaok] using h
               subst hg; exact ⟨zV_i 0, by decide⟩
  | long => have hg : g = 1 := by simpa [zaok] using h
            subst hg; exact ⟨zV_l 0, rfl⟩
  | object C => exact ⟨zV_null (by simpa [zaok] using h), rfl⟩
  | array t => simp [zaok] at h
  | char => simp [zaok] at h
  | float => simp [zaok] at h
  | double => simp [zaok] at h
theorem zcomp (ty : FieldType) : componentBytes ty ≤ 8 := by cases ty <;> simp [componentBytes]
section Z15
variable {p : Program} {l : Launch} {e : Env} {R : Room} {s : State} {m : MethodId} {args : Array Value} {below : List Frame} {meth : Method} {c : Code} {Q : State → Prop} {G : ZG} {M0 : ZM} {b0 b1 : Int} {k pc : Nat} {ls st : List AV} {S : Sto}
theorem zFm.push {H0 H : Heap} {locs : List Loc} {x : Cell} (h : zFm G H0 H locs) (h0 : G.1 ≤ H0.size) : zFm G H0 (H.push x) locs :=
  ⟨by rw [Array.size_push]; have := h.1; omega, fun q hq => by
    have : q < H.size := by have := h.1; omega
    rw [Array.getElem?_push_lt this, ← h.2.1 q hq, Array.getElem?_eq_getElem this], h.2.2⟩
theorem zpush_lt {H : Heap} {x : Cell} {q : Nat} (h : q < H.size) : (H.push x)[q]? = H[q]? := by
  rw [Array.getElem?_push_lt h, Array.getElem?_eq_getElem h]
theorem zc_new {idx : Nat} {ct nf : Int} {q : vw_C × (Nat → FieldType) × List Int} (X : zCX p s m args meth c G k) (hm : (zon k, idx, ct) ∈ zlc) (hq : zcq ct = some q) (hn : (q.1.2.2 : Int) = nf) (hmut : zmut ct) (hc0 : 0 ≤ S (-ct) 0) (hR1 : S 0 0 - b0 + 1 ≤ R.cells) (hR2 : S 0 1 - b1 + nf ≤ R.slots) (hdg : decode (zb k) pc = .ok (.new idx, 3)) (hk : zCont p l e R s m args below meth c Q G M0 b0 b1 (pc + 3) ls ((ct, ct + 512 * S (-ct) 0) :: st) (zcnt (zz S (ct + 512 * S (-ct) 0)) ct nf)) : zCont p l e R s m args below meth c Q G M0 b0 b1 pc ls st S := by
  intro M H locs lj sj hl hs hH he hf hv h0 h1
  have hct := zcq_tag hq
  obtain ⟨q', hq', hw⟩ := zlc_ok _ hm
  cases hq.symm.trans hq'
  have ok := zcq_ok hq
  have hn' : ((ct, q).2.1.2.2 : Int) = nf := hn
  have hKn := X.2.2.2.2.2.2.2.2.1.1 ct q hq
  have hG := X.2.2.2.2.2.2.2.2.2
  refine W.newc X.1 X.2.1 X.2.2.2.1 (X.2.2.2.2.1 _ hw) (X.2.2.2.2.1 _ ok.2.1.1) (X.2.2.2.2.1 _ ok.2.1.2) rfl hdg (by omega) (by omega) ?_
  intro cC kC k1 k2 k3 k4
  have hcC : cC = G.2.1 ct := Option.some.inj (k1.symm.trans hKn.2.1)
  have ham : (ct + 512 * S (-ct) 0) % 512 = ct := by omega
  have had : (ct + 512 * S (-ct) 0) / 512 = S (-ct) 0 := by omega
  have hvar : zvar ct = false := by
    unfold zvar
    rw [zat_none (by omega)]
  have hborn := u_born (o := H.size) (H := H.push { cls := cC, slots := kC.instanceTypes.map defaultValue, vm := .none }) q.2.1 X.2.2.2.2.1 ok.1 hKn (by rw [← hcC]; exact k2) (by rw [← hcC]; exact Array.getElem?_push_size) ok.2.2.1
  obtain ⟨cell, g1, g2, g3, g4⟩ := hborn
  have hne : ∀ j, ct + 512 * S (-ct) 0 ≠ 0 ∧ ct + 512 * S (-ct) 0 ≠ -ct ∧ j = j := fun j => ⟨by omega, by omega, rfl⟩
  have hS0 : ∀ j, zcnt (zz S (ct + 512 * S (-ct) 0)) ct nf (ct + 512 * S (-ct) 0) j = 0 := by
    intro j
    rw [zcnt_pos _ (by omega) (by omega)]
    unfold zz
    rw [if_pos rfl]
  obtain ⟨hR, hE⟩ := hH.make (S' := zcnt (zz S (ct + 512 * S (-ct) 0)) ct nf) (H' := H.push { cls := cC, slots := kC.instanceTypes.map defaultValue, vm := .none }) (a := ct + 512 * S (-ct) 0) (by omega) (by rw [ham]; exact hmut)
    (by unfold zfrs; rw [ham, had, hvar, zcnt_c _ (by omega), zz_ne _ (by omega)]; simp; omega)
    (by unfold zfrs; rw [ham, had, hvar]; simp)
    (fun b j hb hpos => by rw [zcnt_pos _ (by omega) (by omega), zz_ne _ hb])
    (fun t => by
      by_cases ht : 0 ≤ t
      · exact Or.inr ht
      · left
        have := zcnt_le (zz S (ct + 512 * S (-ct) 0)) (t := ct) (n := nf) (by omega) t (by omega)
        rw [zz_ne _ (by omega)] at this
        exact this)
    (by rw [Array.size_push]) (fun z hz => zpush_lt hz) (fun b hb => (hH.1 b hb).lt)
    (by
      refine Or.inl ⟨q, cell, by rw [ham]; exact hq, by simp only [if_pos rfl]; exact g1, by rw [ham]; exact g2, g3, fun j hj => ⟨_, by rw [ham]; exact g4 j hj, ?_⟩⟩
      rw [hS0]
      exact zdef (ok.2.2.2.2.1 j hj).2)
  have hz0 : zcnt (zz S (ct + 512 * S (-ct) 0)) ct nf 0 0 = S 0 0 + 1 := by rw [zcnt_0 _ (by omega), zz_ne _ (by omega)]
  have hz1 : zcnt (zz S (ct + 512 * S (-ct) 0)) ct nf 0 1 = S 0 1 + nf := by rw [zcnt_1 _ (by omega), zz_ne _ (by omega)]
  have := hk _ _ locs lj (.ref H.size :: sj) (hl.ext hE) ⟨by
      have := zV_r (M := (fun b => if b = ct + 512 * S (-ct) 0 then H.size else M.1 b, fun b => b = ct + 512 * S (-ct) 0 ∨ M.2 b)) (t := ct) (a := ct + 512 * S (-ct) 0) hct.1 (by omega) ham (Or.inl rfl)
      simpa using this, hs.ext hE⟩ hR (he.trans hE) (hf.push hG) (hv.moved (Vm.Alike.refl _) hE (fun z hz => by have := hf.1; exact zpush_lt (by omega))) (by rw [hz0]; omega) (by rw [hz1]; omega)
  rw [hz0, hz1] at this
  have e1 : (S 0 0 + 1 - b0).toNat = (S 0 0 - b0).toNat + 1 := by omega
  have e2 : (S 0 1 + nf - b1).toNat = (S 0 1 - b1).toNat + q.1.2.2 := by omega
  rw [e1, e2] at this
  exact this
/-- a new array: the relation and what follows -/
theorem znewarr {t n n0 et : Int} {ty : FieldType} {M : ZM} {H : Heap} {locs : List Loc} {lj : Array Slot} {s2 : List Value} {x : Int32} (X : zCX p s m args meth c G k) (hq : zat t = some (ty, n0, et)) (hok : zaok ty et = true) (hmut : zmut t) (hn : 0 ≤ n) (hn1 : n < 1000000) (hv64 : n0 = -1 → S (-t) 0 < 64) (hnn : n0 ≠ -1 → n = n0) (hc0 : 0 ≤ S (-t) 0) (hx : x.toInt = n)
    (hl : zL M ls lj) (hs : zSt M st s2) (hH : zHR G M S H) (he : zExt M0 M) (hf : zFm G s.heap H locs) (hv : zSv G M s H) (h0 : b0 ≤ S 0 0) (h1 : b1 ≤ S 0 1)
    (hk : zCont p l e R s m args below meth c Q G M0 b0 b1 pc ls ((t, zadr t n0 n (S (-t) 0)) :: st) (zcnt (zz S (zadr t n0 n (S (-t) 0))) t n)) :
    W p l e R s m args below meth c (H.push { cls := G.2.2.2.1 t, slots := Array.replicate x.toNatClampNeg (defaultValue ty), vm := .none }) locs ((S 0 0 - b0).toNat + 1) ((S 0 1 - b1).toNat + x.toNatClampNeg) Q (F0 m pc lj (.ref H.size :: s2)) := by
  have hG := X.2.2.2.2.2.2.2.2.2
  have htt := zat_tag hq
  have htl : t < 512 := by
    unfold zat at hq
    rw [if_pos htt] at hq
    have := (List.getElem?_eq_some_iff.mp hq).1
    have e : zatL.length ≤ 400 := by decide +kernel
    omega
  have hnat : (x.toNatClampNeg : Int) = n := by
    have : x.toNatClampNeg = x.toInt.toNat := rfl
    omega
  generalize hA : zadr t n0 n (S (-t) 0) = a at hk
  have ha : a = t + 512 * (if n0 = -1 then S (-t) 0 + 64 * n else S (-t) 0) := by
    rw [← hA]; unfold zadr; split <;> rfl
  have ham : a % 512 = t := by rw [ha]; omega
  have had : a / 512 = (if n0 = -1 then S (-t) 0 + 64 * n else S (-t) 0) := by rw [ha]; omega
  have hpos : 0 < a := by rw [ha]; split <;> omega
  have hvar : zvar t = decide (n0 = -1) := by
    unfold zvar
    rw [hq]
    by_cases z : n0 = -1 <;> simp [z]
  have hlen : zlen n0 a = n := by
    unfold zlen zLEN
    by_cases z : n0 = -1
    · rw [if_pos z]
      have := hv64 z
      rw [if_pos z] at had
      omega
    · rw [if_neg z]; exact (hnn z).symm
  have hnum : (if zvar (a % 512) = true then (a / 512) % 64 else a / 512) = S (-t) 0 := by
    rw [ham, hvar, had]
    by_cases z : n0 = -1
    · have := hv64 z
      simp only [z, decide_true, if_true]
      omega
    · simp [z]
  have hS0 : ∀ j, zcnt (zz S a) t n a j = 0 := by
    intro j
    rw [zcnt_pos _ (by omega) (by omega)]
    unfold zz
    rw [if_pos rfl]
  obtain ⟨hR, hE⟩ := hH.make (S' := zcnt (zz S a) t n) (H' := H.push { cls := G.2.2.2.1 t, slots := Array.replicate x.toNatClampNeg (defaultValue ty), vm := .none }) (a := a) hpos (by rw [ham]; exact hmut)
    (by unfold zfrs; rw [hnum, ham, zcnt_c _ (by omega), zz_ne _ (by omega)]; omega)
    (by unfold zfrs; rw [hnum, ham]; omega)
    (fun b j hb hpos => by rw [zcnt_pos _ (by omega) (by omega), zz_ne _ hb])
    (fun u => by
      by_cases ht : 0 ≤ u
      · exact Or.inr ht
      · left
        have := zcnt_le (zz S a) (t := t) (n := n) (by omega) u (by omega)
        rw [zz_ne _ (by omega)] at this
        exact this)
    (by rw [Array.size_push]) (fun z hz => zpush_lt hz) (fun b hb => (hH.1 b hb).lt)
    (by
      refine Or.inr (Or.inl ⟨ty, n0, et, { cls := G.2.2.2.1 t, slots := Array.replicate x.toNatClampNeg (defaultValue ty), vm := .none }, by rw [ham]; exact hq, by simp only [if_pos rfl]; exact Array.getElem?_push_size, by rw [ham], (fun h => by cases h), (fun z h => by cases h), by simp only [Array.size_replicate]; omega, by simp only [Array.size_replicate]; omega, fun j hj => ⟨defaultValue ty, ?_, ?_, (zdefa (M := M) hok).2⟩⟩)
      · simp only [Array.size_replicate] at hj
        simp [Array.getElem?_replicate, hj]
      · rw [hS0]
        exact (zdefa hok).1)
  have hz0 : zcnt (zz S a) t n 0 0 = S 0 0 + 1 := by rw [zcnt_0 _ (by omega), zz_ne _ (by omega)]
  have hz1 : zcnt (zz S a) t n 0 1 = S 0 1 + n := by rw [zcnt_1 _ (by omega), zz_ne _ (by omega)]
  have := hk _ _ locs lj (.ref H.size :: s2) (hl.ext hE) ⟨by
      have := zV_r (M := (fun b => if b = a then H.size else M.1 b, fun b => b = a ∨ M.2 b)) (t := t) (a := a) (by omega) (by omega) ham (Or.inl rfl)
      simpa using this, hs.ext hE⟩ hR (he.trans hE) (hf.push hG) (hv.moved (Vm.Alike.refl _) hE (fun z hz => by have := hf.1; exact zpush_lt (by omega))) (by rw [hz0]; omega) (by rw [hz1]; omega)
  rw [hz0, hz1] at this
  have e1 : (S 0 0 + 1 - b0).toNat = (S 0 0 - b0).toNat + 1 := by omega
  have e2 : (S 0 1 + n - b1).toNat = (S 0 1 - b1).toNat + x.toNatClampNeg := by omega
  rw [e1, e2] at this
  exact this
theorem zc_newa {at_ : ArrayType} {t n n0 et : Int} {ty : FieldType} (X : zCX p s m args meth c G k) (hq : zat t = some (ty, n0, et)) (hok : zaok ty et = true) (hmut : zmut t) (hty : newarray.typeOf at_ = ty) (hw : Cond.arrayClass ty ∈ lw_all) (hn : 0 ≤ n) (hn1 : n < 1000000) (hv64 : n0 = -1 → S (-t) 0 < 64) (hnn : n0 ≠ -1 → n = n0) (hc0 : 0 ≤ S (-t) 0) (hR1 : S 0 0 - b0 + 1 ≤ R.cells) (hR2 : S 0 1 - b1 + n ≤ R.slots) (hdg : decode (zb k) pc = .ok (.newarray at_, 2))
    (hk : zCont p l e R s m args below meth c Q G M0 b0 b1 (pc + 2) ls ((t, zadr t n0 n (S (-t) 0)) :: st) (zcnt (zz S (zadr t n0 n (S (-t) 0))) t n)) : zCont p l e R s m args below meth c Q G M0 b0 b1 pc ls ((0, n) :: st) S := by
  intro M H locs lj sj hl hs hH he hf hv h0 h1
  obtain ⟨y, s2, rfl, hy, hs1⟩ := zSt_cons hs
  obtain ⟨x, rfl, hx⟩ := zV_int hy
  have hx : x.toInt = n := hx
  subst hty
  have hnat : (x.toNatClampNeg : Int) = n := by
    have : x.toNatClampNeg = x.toInt.toNat := rfl
    omega
  obtain ⟨kA, comp, z1, z2, z3, -⟩ := X.2.2.2.2.2.2.2.2.1.2.1 t _ n0 et hq
  have hcb := zcomp (newarray.typeOf at_)
  refine W.newa X.1 X.2.1 (X.2.2.2.2.1 _ hw) rfl hdg rfl (fun z => by have := (lz x).mp z; omega) (Nat.le_trans (Nat.mul_le_mul_left _ hcb) (by omega)) (by omega) (by omega) ?_
  intro cA kA' comp' k1 k2 k3
  have hcA : cA = G.2.2.2.1 t := Option.some.inj (k1.symm.trans (z3 hmut))
  subst hcA
  exact znewarr X hq hok hmut hn hn1 hv64 hnn hc0 hx hl hs1 hH he hf hv h0 h1 hk
theorem zc_anewa {idx : Nat} {t n n0 et : Int} {C : String} {q : vw_C × (Nat → FieldType) × List Int} (X : zCX p s m args meth c G k) (hq : zat t = some (.object C, n0, et)) (hok : zaok (.object C) et = true) (hmut : zmut t) (hm : (zon k, idx, et) ∈ zlc) (hqe : zcq et = some q) (hC : q.1.1 = C) (hao : et ∈ ([38, 16, 21, 31] : List Int)) (hn : 0 ≤ n) (hn1 : n < 1000000) (hv64 : n0 = -1 → S (-t) 0 < 64) (hnn : n0 ≠ -1 → n = n0) (hc0 : 0 ≤ S (-t) 0) (hR1 : S 0 0 - b0 + 1 ≤ R.cells) (hR2 : S 0 1 - b1 + n ≤ R.slots) (hdg : decode (zb k) pc = .ok (.anewarray idx, 3))
    (hk : zCont p l e R s m args below meth c Q G M0 b0 b1 (pc + 3) ls ((t, zadr t n0 n (S (-t) 0)) :: st) (zcnt (zz S (zadr t n0 n (S (-t) 0))) t n)) : zCont p l e R s m args below meth c Q G M0 b0 b1 pc ls ((0, n) :: st) S := by
  intro M H locs lj sj hl hs hH he hf hv h0 h1
  obtain ⟨y, s2, rfl, hy, hs1⟩ := zSt_cons hs
  obtain ⟨x, rfl, hx⟩ := zV_int hy
  have hx : x.toInt = n := hx
  have hnat : (x.toNatClampNeg : Int) = n := by
    have : x.toNatClampNeg = x.toInt.toNat := rfl
    omega
  obtain ⟨q', hq', hw⟩ := zlc_ok _ hm
  cases hqe.symm.trans hq'
  rw [hC] at hw
  obtain ⟨kA, comp, z1, z2, z3, -⟩ := X.2.2.2.2.2.2.2.2.1.2.1 t _ n0 et hq
  have hover := X.2.2.2.2.2.2.2.2.1.2.2.2.2.1 et q hqe hao
  rw [hC] at hover
  refine W.anew X.1 X.2.1 X.2.2.2.1 (X.2.2.2.2.1 _ hw) hover.use rfl hdg rfl (fun z => by have := (lz x).mp z; omega) (by omega) (by omega) (by omega) ?_
  intro cA kA' comp' k1 k2 k3 k4
  have hcA : cA = G.2.2.2.1 t := Option.some.inj (k1.symm.trans (z3 hmut))
  subst hcA
  exact znewarr X hq hok hmut hn hn1 hv64 hnn hc0 hx hl hs1 hH he hf hv h0 h1 hk
theorem zc_gets {idx : Nat} {t a : Int} {C n d : String} (X : zCX p s m args meth c G k) (hm : (zon k, idx, t, a, C, n, d) ∈ zlg) (ht : 10 ≤ t) (ha : a % 512 = t) (hdg : decode (zb k) pc = .ok (.getstatic idx, 3)) (hk : zCont p l e R s m args below meth c Q G M0 b0 b1 (pc + 3) ls ((t, a) :: st) S) : zCont p l e R s m args below meth c Q G M0 b0 b1 pc ls st S := by
  intro M H locs lj sj hl hs hH he hf hv h0 h1
  have hw := zlg_ok _ hm
  obtain ⟨hMa, cf, kf, fi, f, aa, cell, g1, g2, g3, g4, g5, g6, g7, g8⟩ := hv _ hm
  refine W.gets X.1 X.2.1 X.2.2.2.1 (X.2.2.2.2.1 _ hw) g1 g2 g3 g4 g5 (fun z => by rw [z] at g6; cases g6) g7 rfl hdg (hk M H locs lj _ hl ⟨zV_r ht (by intro z; rw [z] at ha; omega) ha hMa, hs⟩ hH he hf hv h0 h1)
theorem zc_oinit {idx : Nat} {t a : Int} (X : zCX p s m args meth c G k) (hm : (zon k, idx) ∈ zlo_) (ht : 10 ≤ t) (ha : a ≠ 0) (hst : st.length ≤ 4) (hlen : ls.length = zml k) (hfr : 1 ≤ R.frames) (hlo : 20 ≤ R.locals) (hdg : decode (zb k) pc = .ok (.invokespecial idx, 3)) (hk : zCont p l e R s m args below meth c Q G M0 b0 b1 (pc + 3) ls st S) : zCont p l e R s m args below meth c Q G M0 b0 b1 pc ls ((t, a) :: st) S := by
  intro M H locs lj sj hl hs hH he hf hv h0 h1
  obtain ⟨x, s2, rfl, hx, hs1⟩ := zSt_cons hs
  obtain ⟨-, -, rfl⟩ := zV_obj hx ht ha
  have hcat := zSt_cat hs1
  have hsz : lj.size = c.maxLocals := by
    obtain ⟨lv, q1, -⟩ := hl
    rw [q1.1, hlen, X.2.2.1]
  exact W.objInit X.1 X.2.1 X.2.2.2.1 (X.2.2.2.2.1 _ (zlo__ok _ hm)) (X.2.2.2.2.1 _ (lw_g (lw_at lw_m1 47 rfl) rfl)) (X.2.2.2.2.1 _ (lw_g (lw_at lw_m1 48 rfl) rfl)) rfl hsz rfl hdg hfr (by show 2 * 0 + _ + 12 ≤ _; omega) (hk M H locs lj s2 hl hs1 hH he hf hv h0 h1)
end Z15
