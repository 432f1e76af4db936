/-! SOUNDNESS 2: heaps. G: where what is new begins; class numbers, slots, array classes by tag; Enum's slot of the ordinal -/
abbrev ZG : Type := Nat × (Int → ClassId) × (Int → Nat → Nat) × (Int → ClassId) × Nat
def zOb (G : ZG) (M : ZM) (S : Sto) (a : Int) (H : Heap) : Prop := ∃ (q : vw_C × (Nat → FieldType) × List Int) (cell : Cell), zcq (a % 512) = some q ∧ H[M.1 a]? = some cell ∧ cell.cls = G.2.1 (a % 512) ∧ cell.vm = .none ∧ ∀ k : Nat, k < q.1.2.2 → ∃ x, cell.slots[G.2.2.1 (a % 512) k]? = some x ∧ zV M (q.2.2.getD k 0, S a k) x
def zAr (G : ZG) (M : ZM) (S : Sto) (a : Int) (H : Heap) : Prop := ∃ (ty : FieldType) (n0 et : Int) (cell : Cell), zat (a % 512) = some (ty, n0, et) ∧ H[M.1 a]? = some cell ∧ cell.cls = G.2.2.2.1 (a % 512) ∧ cell.vm ≠ .unknown ∧ (∀ q, cell.vm ≠ .statics q) ∧ (cell.slots.size : Int) = zlen n0 a ∧ (cell.slots.size : Int) < 1000000 ∧ ∀ j : Nat, j < cell.slots.size → ∃ x, cell.slots[j]? = some x ∧ zV M (et, S a j) x ∧ fits ty x = true
def zEn (G : ZG) (M : ZM) (a : Int) (H : Heap) : Prop := (a % 512 = 37 ∨ a % 512 = 40) ∧ 0 ≤ a / 512 ∧ a / 512 < 13 ∧ ∃ cell : Cell, H[M.1 a]? = some cell ∧ cell.cls = G.2.1 (a % 512) ∧ cell.vm ≠ .unknown ∧ cell.vm.isStatics = false ∧ cell.slots[G.2.2.2.2]? = some (.int (Int32.ofInt (a / 512)))
def zCe (G : ZG) (M : ZM) (S : Sto) (a : Int) (H : Heap) : Prop := zOb G M S a H ∨ zAr G M S a H ∨ zEn G M a H
/-- tags of what may be written -/
def zmut (t : Int) : Prop := t ≠ zTS ∧ t ≠ zTK ∧ t ≠ 37 ∧ t ≠ 40
def zvar (t : Int) : Bool := match zat t with
  | some (_, n0, _) => n0 == -1
  | none => false
/-- an address's number is below the counter of its tag -/
def zfrs (S : Sto) (a : Int) : Prop := (if zvar (a % 512) = true then (a / 512) % 64 else a / 512) < S (-(a % 512)) 0
def zHR (G : ZG) (M : ZM) (S : Sto) (H : Heap) : Prop := (∀ a, M.2 a → zCe G M S a H) ∧ (∀ a b, M.2 a → M.2 b → M.1 a = M.1 b → a = b) ∧ (∀ a, M.2 a → zmut (a % 512) → G.1 ≤ M.1 a ∧ zfrs S a) ∧ (∀ a, M.2 a → 0 < a) ∧ G.1 ≤ H.size
theorem zat_tag {t : Int} {x : FieldType × Int × Int} (h : zat t = some x) : 50 ≤ t := by
  unfold zat at h
  split at h
  · assumption
  · cases h
theorem zat_none {t : Int} (h : t < 50) : zat t = none := by
  unfold zat
  rw [if_neg (by omega)]
theorem zcq_tag {t : Int} {q : vw_C × (Nat → FieldType) × List Int} (h : zcq t = some q) : 10 ≤ t ∧ t < 50 := ⟨(zcq_ok h).2.2.2.2.2.1, (zcq_ok h).2.2.2.2.2.2⟩
theorem zCe.congr {G : ZG} {M M' : ZM} {S S' : Sto} {a : Int} {H H' : Heap} (h : zCe G M S a H) (he : zExt M M') (ha : M.2 a) (hs : ∀ j, S' a j = S a j) (hh : H'[M.1 a]? = H[M.1 a]?) : zCe G M' S' a H' := by
  have hm : M'.1 a = M.1 a := (he a ha).2
  rcases h with ⟨q, cell, h1, h2, h3, h4, h5⟩ | ⟨ty, n0, et, cell, h1, h2, h3, h4, h5, h6, h7, h8⟩ | ⟨h1, h2, h3, cell, h4, h5⟩
  · refine Or.inl ⟨q, cell, h1, by rw [hm, hh]; exact h2, h3, h4, fun k hk => ?_⟩
    obtain ⟨x, h6, h7⟩ := h5 k hk
    exact ⟨x, h6, by rw [hs]; exact h7.ext he⟩
  · refine Or.inr (Or.inl ⟨ty, n0, et, cell, h1, by rw [hm, hh]; exact h2, h3, h4, h5, h6, h7, fun j hj => ?_⟩)
    obtain ⟨x, h9, h10, h11⟩ := h8 j hj
    exact ⟨x, h9, by rw [hs]; exact h10.ext he, h11⟩
  · exact Or.inr (Or.inr ⟨h1, h2, h3, cell, by rw [hm, hh]; exact h4, h5⟩)
theorem up_ne (S : Sto) {a b i j v : Int} (h : b ≠ a) : up S a i v b j = S b j := by
  unfold up
  rw [if_neg (fun q => h q.1)]
theorem up_idx (S : Sto) {a i j v : Int} (h : j ≠ i) : up S a i v a j = S a j := by
  unfold up
  rw [if_neg (fun q => h q.2)]
theorem up_same (S : Sto) (a i v : Int) : up S a i v a i = v := by
  unfold up
  rw [if_pos ⟨rfl, rfl⟩]
/-- one cell is written -/
theorem zHR.put {G : ZG} {M : ZM} {S S' : Sto} {H H' : Heap} {a : Int} (h : zHR G M S H) (ha : M.2 a) (hs : ∀ b j, b ≠ a → S' b j = S b j) (hsz : H'.size = H.size) (hh : ∀ q : Nat, q ≠ M.1 a → H'[q]? = H[q]?) (hc : zCe G M S' a H') : zHR G M S' H' := by
  obtain ⟨h1, h2, h3, h4, h5⟩ := h
  refine ⟨fun b hb => ?_, h2, fun b hb hm => ⟨(h3 b hb hm).1, ?_⟩, h4, by rw [hsz]; exact h5⟩
  · by_cases e : b = a
    · rw [e]; exact hc
    · exact (h1 b hb).congr (zExt.rf M) hb (fun j => hs b j e) (hh _ (fun q => e (h2 b a hb ha q)))
  · have h6 := (h3 b hb hm).2
    unfold zfrs at h6 ⊢
    have h7 := h4 a ha
    have h8 : -(b % 512) ≠ a := by omega
    rw [hs _ _ h8]
    exact h6
/-- a cell is made -/
theorem zHR.make {G : ZG} {M : ZM} {S S' : Sto} {H H' : Heap} {a : Int} (h : zHR G M S H) (hpos : 0 < a) (hmut : zmut (a % 512)) (hf : zfrs S' a) (hnf : ¬ zfrs S a) (hs : ∀ b j, b ≠ a → 0 < b → S' b j = S b j) (hcnt : ∀ t, S t 0 ≤ S' t 0 ∨ 0 ≤ t) (hsz : H'.size = H.size + 1) (hh : ∀ q : Nat, q < H.size → H'[q]? = H[q]?) (hlt : ∀ b, M.2 b → M.1 b < H.size)
    (hc : zCe G (fun b => if b = a then H.size else M.1 b, fun b => b = a ∨ M.2 b) S' a H') :
    zHR G (fun b => if b = a then H.size else M.1 b, fun b => b = a ∨ M.2 b) S' H' ∧ zExt M (fun b => if b = a then H.size else M.1 b, fun b => b = a ∨ M.2 b) := by
  obtain ⟨h1, h2, h3, h4, h5⟩ := h
  have hna : ¬ M.2 a := fun q => hnf (h3 a q hmut).2
  have hne : ∀ b, M.2 b → b ≠ a := fun b hb e => hna (e ▸ hb)
  have he : zExt M (fun b => if b = a then H.size else M.1 b, fun b => b = a ∨ M.2 b) := fun b hb => ⟨Or.inr hb, if_neg (hne b hb)⟩
  refine ⟨⟨fun b hb => ?_, fun b c hb hc' hbc => ?_, fun b hb hm => ?_, fun b hb => ?_, by rw [hsz]; omega⟩, he⟩
  · rcases hb with rfl | hb
    · exact hc
    · exact (h1 b hb).congr he hb (fun j => hs b j (hne b hb) (h4 b hb)) (hh _ (hlt b hb))
  · rcases hb with rfl | hb <;> rcases hc' with rfl | hc'
    · rfl
    · simp only [if_pos rfl, if_neg (hne c hc')] at hbc
      have := hlt c hc'
      simp at hbc
      omega
    · simp only [if_neg (hne b hb)] at hbc
      have := hlt b hb
      simp at hbc
      omega
    · simp only [if_neg (hne b hb), if_neg (hne c hc')] at hbc
      exact h2 b c hb hc' hbc
  · rcases hb with rfl | hb
    · exact ⟨by simp; omega, hf⟩
    · refine ⟨by simp only [if_neg (hne b hb)]; exact (h3 b hb hm).1, ?_⟩
      have h6 := (h3 b hb hm).2
      unfold zfrs at h6 ⊢
      have h7 := h4 b hb
      rcases hcnt (-(b % 512)) with q | q
      · omega
      · have h8 : zCe G M S b H := h1 b hb
        exfalso
        rcases h8 with ⟨q1, cell, z1, -⟩ | ⟨ty, n0, et, cell, z1, -⟩ | ⟨z1, -⟩
        · have := (zcq_tag z1).1; omega
        · have := zat_tag z1; omega
        · omega
  · rcases hb with rfl | hb
    · exact hpos
    · exact h4 b hb
theorem zCe.lt {G : ZG} {M : ZM} {S : Sto} {a : Int} {H : Heap} (h : zCe G M S a H) : M.1 a < H.size := by
  rcases h with ⟨q, cell, h1, h2, -⟩ | ⟨ty, n0, et, cell, h1, h2, -⟩ | ⟨h1, h2, h3, cell, h4, h5⟩
  · exact (Array.getElem?_eq_some_iff.mp h2).1
  · exact (Array.getElem?_eq_some_iff.mp h2).1
  · exact (Array.getElem?_eq_some_iff.mp h4).1
theorem zHR.ob {G : ZG} {M : ZM} {S : Sto} {a : Int} {H : Heap} (h : zHR G M S H) (ha : M.2 a) {q : vw_C × (Nat → FieldType) × List Int} (hq : zcq (a % 512) = some q) : ∃ cell : Cell, H[M.1 a]? = some cell ∧ cell.cls = G.2.1 (a % 512) ∧ cell.vm = .none ∧ ∀ k : Nat, k < q.1.2.2 → ∃ x, cell.slots[G.2.2.1 (a % 512) k]? = some x ∧ zV M (q.2.2.getD k 0, S a k) x := by
  rcases h.1 a ha with ⟨q', cell, h1, h2, h3, h4, h5⟩ | ⟨ty, n0, et, cell, h1, -⟩ | ⟨h1, -⟩
  · cases hq.symm.trans h1
    exact ⟨cell, h2, h3, h4, h5⟩
  · have := (zcq_tag hq).2
    have := zat_tag h1
    omega
  · rcases h1 with h1 | h1 <;> (rw [h1] at hq; first | exact absurd (hq.symm.trans (show zcq 37 = none from rfl)) (by simp) | exact absurd (hq.symm.trans (show zcq 40 = none from rfl)) (by simp))
theorem zHR.ar {G : ZG} {M : ZM} {S : Sto} {a : Int} {H : Heap} (h : zHR G M S H) (ha : M.2 a) {ty : FieldType} {n0 et : Int} (hq : zat (a % 512) = some (ty, n0, et)) : ∃ cell : Cell, H[M.1 a]? = some cell ∧ cell.cls = G.2.2.2.1 (a % 512) ∧ cell.vm ≠ .unknown ∧ (∀ q, cell.vm ≠ .statics q) ∧ (cell.slots.size : Int) = zlen n0 a ∧ (cell.slots.size : Int) < 1000000 ∧ ∀ j : Nat, j < cell.slots.size → ∃ x, cell.slots[j]? = some x ∧ zV M (et, S a j) x ∧ fits ty x = true := by
  rcases h.1 a ha with ⟨q', cell, h1, -⟩ | ⟨ty', n0', et', cell, h1, h2, h3, h4, h5, h6, h7, h8⟩ | ⟨h1, -⟩
  · have := (zcq_tag h1).2
    have := zat_tag hq
    omega
  · cases hq.symm.trans h1
    exact ⟨cell, h2, h3, h4, h5, h6, h7, h8⟩
  · have := zat_tag hq
    omega
def zOrd (U : State) (i : Nat) : Prop := ∃ cf kf fi fd, U.fieldFound? "java/lang/Enum" "ordinal" "I" = some (cf, kf, fi, fd) ∧ fd.isStatic = false ∧ fd.slot = i
theorem zOrd.moved {u E : State} {i : Nat} (hvm : u.vm.Alike E.vm) (h : zOrd u i) : zOrd E i := by
  obtain ⟨cf, kf, fi, fd, hi, h1, h2⟩ := h
  obtain ⟨kf', hi', -⟩ := State.fieldFound?_setVm (s := u) hvm hi
  exact ⟨cf, kf', fi, fd, by simpa only [State.fieldFound?, State.vm_setVm] using hi', h1, h2⟩
/-- what the tables say of a state -/
def zKn (G : ZG) (U : State) : Prop := (∀ t q, zcq t = some q → u_Kn U q.1.1 q.1.2.1 q.1.2.2 (G.2.1 t) (G.2.2.1 t)) ∧
  (∀ t ty n0 et, zat t = some (ty, n0, et) → ∃ k comp, U.vm.classes[G.2.2.2.1 t]? = some k ∧ k.kind = .array comp ty ∧ (zmut t → U.vm.findClass ("[" ++ ty.toString) = some (G.2.2.2.1 t)) ∧ ∀ C, ty = .object C → U.vm.findClass C = some comp) ∧
  (∀ e ∈ zlmN, va_Nw (.methodLinkNest (zcn e.1) e.2.1 (zy e.2.2.1) e.2.2.2) U) ∧
  (∀ e ∈ zlfN, ∀ q, zcq e.2.2.1 = some q → va_Nw (.fieldLinkNest (zcn e.1) e.2.1 q.1.1 (q.1.2.1 e.2.2.2.1).2.1 (q.1.2.1 e.2.2.2.1).2.2.1 e.2.2.2.2) U) ∧
  (∀ t q, zcq t = some q → t ∈ ([38, 16, 21, 31] : List Int) → va_AO q.1.1 U) ∧
  zOrd U G.2.2.2.2 ∧ U.vm.findClass "CoinScripts$TermCodec$Kind" = some (G.2.1 37) ∧ U.vm.findClass "CoinScripts$CekMachine$Op" = some (G.2.1 40)
/-- static fields: constants -/
def zSv (G : ZG) (M : ZM) (U : State) (H : Heap) : Prop := ∀ e ∈ zlg, M.2 e.2.2.2.1 ∧ va_Z e.2.2.2.2.1 e.2.2.2.2.2.1 e.2.2.2.2.2.2 (.ref (M.1 e.2.2.2.1)) (fun q => G.1 ≤ q) U H
theorem zKn.moved {G : ZG} {s U : State} (hW : s.WarmedH U.vm) (h : zKn G s) : zKn G U := by
  obtain ⟨h1, h2, h3, h4, h5, h6, h7, h8⟩ := h
  have hvm : s.vm.Alike U.vm := hW.alike
  refine ⟨fun t q hq => u_Kn_moved hvm (h1 t q hq), fun t ty n0 et ht => ?_, fun e he => (h3 e he).warmM hW, fun e he q hq => (h4 e he q hq).warmF hW, fun t q hq ht => va_AO.moved hvm (h5 t q hq ht), h6.moved hvm, by rw [hvm.findClass]; exact h7, by rw [hvm.findClass]; exact h8⟩
  obtain ⟨k, comp, g1, g2, g3, g4⟩ := h2 t ty n0 et ht
  obtain ⟨k', hk', he⟩ := hvm.2.2 _ _ g1
  exact ⟨k', comp, hk', by rw [he]; exact g2, fun hm => by rw [hvm.findClass]; exact g3 hm, fun C hC => by rw [hvm.findClass]; exact g4 C hC⟩
theorem zKn.same {G : ZG} {s U : State} (h0 : s.vm = U.vm) (h : zKn G s) : zKn G U := by
  obtain ⟨h1, h2, h3, h4, h5, h6, h7, h8⟩ := h
  have hvm : s.vm.Alike U.vm := by rw [h0]; exact Vm.Alike.refl _
  refine ⟨fun t q hq => u_Kn_moved hvm (h1 t q hq), fun t ty n0 et ht => by rw [← h0]; exact h2 t ty n0 et ht, fun e he => va_Nw.same rfl h0 (h3 e he), fun e he q hq => va_Nw.same rfl h0 (h4 e he q hq), fun t q hq ht => va_AO.moved hvm (h5 t q hq ht), h6.moved hvm, by rw [← h0]; exact h7, by rw [← h0]; exact h8⟩
theorem zSv.moved {G : ZG} {M M' : ZM} {s U : State} {H H' : Heap} (hvm : s.vm.Alike U.vm) (he : zExt M M') (hh : ∀ q : Nat, q < G.1 → H'[q]? = H[q]?) (h : zSv G M s H) : zSv G M' U H' := by
  intro e hm
  obtain ⟨h1, h2⟩ := h e hm
  refine ⟨(he _ h1).1, ?_⟩
  rw [(he _ h1).2]
  obtain ⟨cf, kf, fi, f, a, cell, g1, g2, g3, g4, g5, g6, g7, g8⟩ := h2.moved hvm
  exact ⟨cf, kf, fi, f, a, cell, g1, g2, g3, g4, by rw [hh a (Nat.not_le.mp g8)]; exact g5, g6, g7, g8⟩
