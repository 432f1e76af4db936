/-! X.coinOf's throw -/
theorem zHR.heap {G : ZG} {M : ZM} {S : Sto} {H H' : Heap} (h : zHR G M S H) (hs : H.size ≤ H'.size) (hh : ∀ q : Nat, q < H.size → H'[q]? = H[q]?) : zHR G M S H' := by
  obtain ⟨h1, h2, h3, h4, h5⟩ := id h
  exact ⟨fun a ha => (h1 a ha).congr (zExt.rf M) ha (fun _ => rfl) (hh _ (h1 a ha).lt), h2, h3, h4, Nat.le_trans h5 hs⟩
theorem zHR.cnt0 {G : ZG} {M : ZM} {S S' : Sto} {H : Heap} (h : zHR G M S H) (hs : ∀ a j, a ≠ 0 → S' a j = S a j) : zHR G M S' H := by
  obtain ⟨h1, h2, h3, h4, h5⟩ := id h
  refine ⟨fun a ha => (h1 a ha).congr (zExt.rf M) ha (fun j => hs a j (by have := h4 a ha; omega)) rfl, h2, fun a ha hm => ⟨(h3 a ha hm).1, ?_⟩, h4, h5⟩
  have h6 := (h3 a ha hm).2
  unfold zfrs at h6 ⊢
  by_cases e : a % 512 = 0
  · exfalso
    have := h1 a ha
    rcases this with ⟨q, cell, g1, -⟩ | ⟨ty, n0, et, cell, g1, -⟩ | ⟨g1, -⟩
    · have := zcq_tag g1; omega
    · have := zat_tag g1; omega
    · omega
  · rw [hs _ _ (by omega)]
    exact h6
theorem zsame_heap {s t : State} {cells slots : Nat} (h : s.sameButNew t [] cells slots) {q : Nat} (hq : q < s.heap.size) : t.heap[q]? = s.heap[q]? := by
  have hc := Array.getElem?_eq_getElem hq
  obtain ⟨c', g1, g2, g3, g4⟩ := h.2.2.2.2.2 q _ hc
  rw [g1, hc]
  have : c'.slots = s.heap[q].slots := by
    apply Array.ext_getElem?
    intro i
    exact g4 i (by simp)
  rw [g2, this]
theorem zthr {p : Program} {l : Launch} {e : Env} {R : Room} {s : State} {m : MethodId} {args : Array Value} {below : List Frame} {meth : Method} {c : Code} {Q : State → Prop} {G : ZG} {M0 : ZM} {b0 b1 : Int} {ls : List AV} {S : Sto} (hfl : l.stackTraces = false) (X : zCX p s m args meth c G 44) (hxt : c.exceptionTable.isEmpty = true) (hxw : zXw G s) (hR : R.frames = zfr 44 ∧ R.locals = zlo 44) (hlen : ls.length = zml 44) (hR1 : S 0 0 + 1 - b0 ≤ R.cells) (hR2 : S 0 1 + 6 - b1 ≤ R.slots)
    (hQ : ∀ (t : State) (a : Addr) (M : ZM) (locs : List Loc), t.status = .running → Ended t below (.threw a) → s.WarmedH t.vm → s.sameButNew (t.setVm s.vm) locs (S 0 0 + 1 - b0).toNat (S 0 1 + 6 - b1).toNat → (∀ x ∈ locs, G.1 ≤ x.base) → zExt M0 M → zHR G M S t.heap → (∀ q : Nat, q < G.1 → t.heap[q]? = s.heap[q]?) → s.heap.size ≤ t.heap.size → (∃ ce : Cell, t.heap[a]? = some ce ∧ t.vm.findClass zIO = some ce.cls ∧ ce.vm = .none) → Q t) :
    zCont p l e R s m args below meth c Q G M0 b0 b1 34 ls [] S := by
  intro M H locs lj sj hl hs hH he hf hv h0 h1
  rw [zSt_nil hs]
  intro T hT XS
  have hfr : R.frames = 8 := hR.1
  have hlo : R.locals = 200 := hR.2
  have Xs := zrebase (R' := { frames := 8, cells := 1, slots := 6, locals := 200 }) XS (by rw [hfr]; exact Nat.le_refl _) (by rw [hlo]; exact Nat.le_refl _) (by show _ + 1 ≤ _; omega) (by show _ + 6 ≤ _; omega)
  have hvmS : (T.setFrames (.invoking m args :: below)).vm = T.vm := rfl
  have hheapS : (T.setFrames (.invoking m args :: below)).heap = H := hT
  have hts : ∀ w ∈ lw_all, w.before args (T.setFrames (.invoking m args :: below)) = true := fun w hw => pay_in X.2.2.2.2.1 lw_self w hw args _ XS.warmed
  have hxw' : zXw G (T.setFrames (.invoking m args :: below)) := hxw.moved XS.warmed (fun q hq => by rw [hheapS]; exact hf.2.1 q hq)
  have hat : ∀ w ∈ zXat, w.before args (T.setFrames (.invoking m args :: below)) = true := fun w hw => by
    rcases zXat_split w hw with h | h
    · exact hts w h
    · exact hxw'.use args w hw h
  have hown : (T.setFrames (.invoking m args :: below)).vm.findClass "CoinScripts" = some m.cls := by
    rw [hvmS, XS.warmed.alike.findClass]
    exact X.2.2.2.1
  have key : W p l e { frames := 8, cells := 1, slots := 6, locals := 200 } (T.setFrames (.invoking m args :: below)) m args below meth c H [] 0 0 Q (F0 m 34 lj []) := by
    refine W.newc X.1 X.2.1 hown (hts (.classLink "CoinScripts" 445 zIO) (lw_g (by decide +kernel) rfl)) (hat (.instantiable zIO 6) (by decide +kernel)) (hts (.initialized zIO) (lw_g (by decide +kernel) rfl)) rfl (by decide +kernel : decode (zb 44) 34 = .ok (.new 445, 3)) (by decide) (by decide) ?_
    intro cC kC k1 k2 k3 k4
    refine lv_dup (pc := 37) X.1 X.2.1 (by decide +kernel) rfl ?_
    intro T2 hT2 X2
    have hsz : lj.size = c.maxLocals := by rw [zlsz hl, hlen]; exact X.2.2.1.symm
    obtain ⟨U, g1, g2, g3, g4, g5, ce, g6, g7⟩ := X2.ctorThrow0 (names := ["java/lang/RuntimeException", "java/lang/Exception"]) (own := "CoinScripts") (cls := zIO) (ic := 447) X.1 (by rw [X2.admits.platform]; exact hfl) hown (by decide +kernel) (by decide +kernel) hat (fun x hx => by cases hx) k1 k2
      (a := H.size) (by rw [hT2]; exact Array.getElem?_push_size) (by rw [hheapS]; exact Nat.le_refl _) (g := F0 m 38 lj [.ref H.size, .ref H.size]) rfl hsz rfl rfl (rest := []) rfl (by rw [X.2.1]; exact (by decide +kernel : decode (zb 44) 38 = .ok (.invokespecial 447, 3))) (by rw [X.2.1]; exact (by decide +kernel : decode (zb 44) 41 = .ok (.athrow, 1)))
      (fun x hx => by
        have : c.exceptionTable = #[] := Array.isEmpty_iff.mp hxt
        rw [this] at hx
        cases hx) (by decide) (by simp [JFrame.monitorRoom, Value.category]) X.2.2.2.2.2.2.1
    refine ⟨U, g1, ?_⟩
    have hHs : H.size ≤ U.heap.size := by have := g5.2.1; rw [hheapS] at this; exact this
    have hHq : ∀ q : Nat, q < H.size → U.heap[q]? = H[q]? := fun q hq => by
      have := zsame_heap g5 (q := q) (by rw [hheapS]; exact hq)
      rw [hheapS] at this
      exact this
    have hsn : T.sameButNew (U.setVm T.vm) [] 1 6 := by
      obtain ⟨z1, z2, z3, z4, z5, z6⟩ := g5
      refine ⟨?_, z2, z3, z4, z5, z6⟩
      have z1' : U.setVm T.vm = { (T.setFrames (.invoking m args :: below)).setFrames (U.setVm T.vm).frames with heap := (U.setVm T.vm).heap, slotsUsed := (U.setVm T.vm).slotsUsed } := z1
      rw [State.setFrames_setFrames] at z1'
      exact z1'
    have hsn2 := XS.same.trans (hsn.setVm s.vm)
    refine hQ U H.size M locs g2 g3 (State.WarmedH.trans XS.warmed g4) ?_ hf.2.2 he (hH.heap hHs hHq) (fun q hq => ?_) ?_ ⟨ce, g6, ?_, g7.vm⟩
    · have e1 : (S 0 0 + 1 - b0).toNat = (S 0 0 - b0).toNat + 1 := by omega
      have e2 : (S 0 1 + 6 - b1).toNat = (S 0 1 - b1).toNat + 6 := by omega
      rw [e1, e2, List.append_nil] at *
      exact hsn2
    · have hG := X.2.2.2.2.2.2.2.2.2
      rw [hHq q (by have := hf.1; omega)]
      exact hf.2.1 q hq
    · have := hf.1; omega
    · have := g7.cls
      rw [g4.alike.findClass]
      exact this
  exact key T hT Xs
