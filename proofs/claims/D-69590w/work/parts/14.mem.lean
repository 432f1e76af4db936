/-! SOUNDNESS 4: one instruction: fields, arrays, new things -/
theorem zfits {M : ZM} {ty : FieldType} {g v : Int} {x : Value} (h : zfok ty g = true) (hv : zV M (g, v) x) (hb : ty = .boolean → v = 0 ∨ v = 1) : narrow ty x = x ∧ fits ty x = true := by
  cases ty with
  | int =>
    have hg : g = 0 := by simpa [zfok] using h
    subst hg
    obtain ⟨i, rfl, -⟩ := zV_int hv
    exact ⟨rfl, rfl⟩
  | boolean =>
    have hg : g = 0 := by simpa [zfok] using h
    subst hg
    obtain ⟨i, rfl, hi⟩ := zV_int hv
    rcases hb rfl with q | q
    · have : i = 0 := (ez i).mpr (by omega)
      subst this; exact ⟨rfl, rfl⟩
    · have : i = 1 := Int32.toInt_inj.mp (by rw [hi, q]; rfl)
      subst this; exact ⟨rfl, rfl⟩
  | long =>
    have hg : g = 1 := by simpa [zfok] using h
    subst hg
    obtain ⟨i, rfl, -⟩ := zV_long hv
    exact ⟨rfl, rfl⟩
  | object C =>
    have hg : 10 ≤ g := by simpa [zfok] using h
    rcases zV_ref hv hg with ⟨-, rfl⟩ | ⟨-, -, -, rfl⟩ <;> exact ⟨rfl, rfl⟩
  | array t =>
    have hg : 10 ≤ g := by simpa [zfok] using h
    rcases zV_ref hv hg with ⟨-, rfl⟩ | ⟨-, -, -, rfl⟩ <;> exact ⟨rfl, rfl⟩
  | byte => simp [zfok] at h
  | char => simp [zfok] at h
  | short => simp [zfok] at h
  | float => simp [zfok] at h
  | double => simp [zfok] at h
theorem zfit8 (w : Int32) : fits .byte (.int w.toInt8.toInt32) = true := by
  have h := i2b_eq w
  have h2 : -128 ≤ w8 w.toInt ∧ w8 w.toInt ≤ 127 := by
    unfold w8
    have h3 := Int.le_bmod (x := w.toInt) (m := 256) (by omega)
    have h4 := Int.bmod_lt (x := w.toInt) (m := 256) (by omega)
    omega
  simp only [fits, Bool.and_eq_true, decide_eq_true_eq]
  constructor
  · rw [le, h]; exact h2.1
  · rw [le, h]; exact h2.2
theorem zfit16 (w : Int32) : fits .short (.int w.toInt16.toInt32) = true := by
  have h := i2s_eq w
  have h2 : -32768 ≤ w16 w.toInt ∧ w16 w.toInt ≤ 32767 := by
    unfold w16
    have h3 := Int.le_bmod (x := w.toInt) (m := 65536) (by omega)
    have h4 := Int.bmod_lt (x := w.toInt) (m := 65536) (by omega)
    omega
  simp only [fits, Bool.and_eq_true, decide_eq_true_eq]
  constructor
  · rw [le, h]; exact h2.1
  · rw [le, h]; exact h2.2
theorem zf01 {w : Int32} (h : w.toInt = 0 ∨ w.toInt = 1) : w = 0 ∨ w = 1 := by
  rcases h with q | q
  · exact Or.inl ((ez w).mpr q)
  · exact Or.inr (Int32.toInt_inj.mp (by rw [q]; rfl))
theorem zfz {M : ZM} {w : Int32} (h : w.toInt = 0 ∨ w.toInt = 1) : zV M (0, w.toInt) (narrow .boolean (.int w)) := by
  rcases zf01 h with rfl | rfl
  · exact Or.inl ⟨rfl, _, rfl, rfl⟩
  · exact Or.inl ⟨rfl, _, rfl, rfl⟩
theorem zfzf {w : Int32} (h : w.toInt = 0 ∨ w.toInt = 1) : fits .boolean (narrow .boolean (.int w)) = true := by
  rcases zf01 h with rfl | rfl <;> rfl
section Z14
variable {p : Program} {l : Launch} {e : Env} {R : Room} {s : State} {m : MethodId} {args : Array Value} {below : List Frame} {meth : Method} {c : Code} {Q : State → Prop} {G : ZG} {M0 : ZM} {b0 b1 : Int} {k pc : Nat} {ls st : List AV} {S : Sto}
theorem zc_getf {idx f : Nat} {ct t a : Int} {q : vw_C × (Nat → FieldType) × List Int} (X : zCX p s m args meth c G k) (hm : (zon k, idx, ct, f) ∈ zlf) (hq : zcq ct = some q) (hf0 : f < q.1.2.2) (ht : q.2.2.getD f 0 = t) (ha : a % 512 = ct) (hdg : decode (zb k) pc = .ok (.getfield idx, 3)) (hk : zCont p l e R s m args below meth c Q G M0 b0 b1 (pc + 3) ls ((t, S a f) :: st) S) : zCont p l e R s m args below meth c Q G M0 b0 b1 pc ls ((ct, a) :: st) S := by
  intro M H locs lj sj hl hs hH he hf hv h0 h1
  obtain ⟨x, s1, rfl, hx, hs1⟩ := zSt_cons hs
  have hct := zcq_tag hq
  obtain ⟨-, hMa, rfl⟩ := zV_obj hx hct.1 (by intro z; rw [z] at ha; omega)
  obtain ⟨cell, c1, c2, c3, c4⟩ := hH.ob hMa (q := q) (by rw [ha]; exact hq)
  obtain ⟨v, v1, v2⟩ := c4 f hf0
  obtain ⟨q', hq', hw⟩ := zlf_ok _ hm
  cases hq.symm.trans hq'
  have ok := zcq_ok hq
  obtain ⟨hS, hfc, kC, hkC, hkind⟩ := X.2.2.2.2.2.2.2.2.1.1 ct q hq
  obtain ⟨cf, kf, fi, fd, hi, hsl⟩ := hS f hf0
  have hT1 := (ok.2.2.2.2.1 f hf0).1
  rw [hT1] at hi
  have hi2 := hi
  have hst := (u_facts (O := q.1.1) hfc hkC (by have := u_lays X.2.2.2.2.1 ok.1 hf0; rw [hT1] at this; exact this) hi).1
  refine W.getf X.1 X.2.1 X.2.2.2.1 (X.2.2.2.2.1 _ hw) hi hst c1 (by rw [c3]; exact fun h => by cases h) (v := v) (by rw [hsl, ← ha]; exact v1) rfl rfl hdg (hk M H locs lj _ hl ⟨?_, hs1⟩ hH he hf hv h0 h1)
  rw [← ht]; exact v2
theorem zc_getfN {idx f : Nat} {ct t a : Int} {host : String} {q : vw_C × (Nat → FieldType) × List Int} (X : zCX p s m args meth c G k) (hm : (zon k, idx, ct, f, host) ∈ zlfN) (hq : zcq ct = some q) (hf0 : f < q.1.2.2) (ht : q.2.2.getD f 0 = t) (ha : a % 512 = ct) (hdg : decode (zb k) pc = .ok (.getfield idx, 3)) (hk : zCont p l e R s m args below meth c Q G M0 b0 b1 (pc + 3) ls ((t, S a f) :: st) S) : zCont p l e R s m args below meth c Q G M0 b0 b1 pc ls ((ct, a) :: st) S := by
  intro M H locs lj sj hl hs hH he hf hv h0 h1
  obtain ⟨x, s1, rfl, hx, hs1⟩ := zSt_cons hs
  have hct := zcq_tag hq
  obtain ⟨-, hMa, rfl⟩ := zV_obj hx hct.1 (by intro z; rw [z] at ha; omega)
  obtain ⟨cell, c1, c2, c3, c4⟩ := hH.ob hMa (q := q) (by rw [ha]; exact hq)
  obtain ⟨v, v1, v2⟩ := c4 f hf0
  have hw := X.2.2.2.2.2.2.2.2.1.2.2.2.1 _ hm q hq
  have ok := zcq_ok hq
  obtain ⟨hS, hfc, kC, hkC, hkind⟩ := X.2.2.2.2.2.2.2.2.1.1 ct q hq
  obtain ⟨cf, kf, fi, fd, hi, hsl⟩ := hS f hf0
  have hT1 := (ok.2.2.2.2.1 f hf0).1
  rw [hT1] at hi
  have hst := (u_facts (O := q.1.1) hfc hkC (by have := u_lays X.2.2.2.2.1 ok.1 hf0; rw [hT1] at this; exact this) hi).1
  refine va_Wgetf X.1 X.2.1 X.2.2.2.1 (va_Nw.use rfl hw) hi hst c1 (by rw [c3]; exact fun h => by cases h) (v := v) (by rw [hsl, ← ha]; exact v1) rfl rfl hdg (hk M H locs lj _ hl ⟨?_, hs1⟩ hH he hf hv h0 h1)
  rw [← ht]; exact v2
/-- an object's field is written: the relation -/
theorem zob_put {q : vw_C × (Nat → FieldType) × List Int} {a v : Int} {f : Nat} {M : ZM} {H H' : Heap} {cell : Cell} {x : Value} (hH : zHR G M S H) (hMa : M.2 a) (hq : zcq (a % 512) = some q) (hf0 : f < q.1.2.2) (c1 : H[M.1 a]? = some cell) (c2 : cell.cls = G.2.1 (a % 512)) (c3 : cell.vm = .none) (c4 : ∀ k : Nat, k < q.1.2.2 → ∃ x, cell.slots[G.2.2.1 (a % 512) k]? = some x ∧ zV M (q.2.2.getD k 0, S a k) x) (hap : ∀ x y, x < q.1.2.2 → y < q.1.2.2 → x ≠ y → G.2.2.1 (a % 512) x ≠ G.2.2.1 (a % 512) y) (hx : zV M (q.2.2.getD f 0, v) x) (e1 : H'[M.1 a]? = some (cell.setSlot (G.2.2.1 (a % 512) f) x)) (e2 : H'.size = H.size) (e3 : ∀ z, z ≠ M.1 a → H'[z]? = H[z]?) : zHR G M (up S a f v) H' := by
  refine hH.put hMa (fun b j hb => up_ne S hb) e2 e3 (Or.inl ⟨q, _, hq, e1, c2, c3, fun j hj => ?_⟩)
  have hin : G.2.2.1 (a % 512) f < cell.slots.size := by
    obtain ⟨y, h1, -⟩ := c4 f hf0
    exact (Array.getElem?_eq_some_iff.mp h1).1
  by_cases hjf : j = f
  · subst hjf
    refine ⟨x, ?_, by rw [up_same]; exact hx⟩
    simp [Cell.setSlot, hin]
  · obtain ⟨y, h1, h2⟩ := c4 j hj
    refine ⟨y, ?_, by rw [up_idx S (by omega)]; exact h2⟩
    have := hap f j hf0 hj (Ne.symm hjf)
    simp only [Cell.setSlot]
    rw [Array.getElem?_setIfInBounds, if_neg this]
    exact h1
theorem zap {ct : Int} {q : vw_C × (Nat → FieldType) × List Int} (X : zCX p s m args meth c G k) (hq : zcq ct = some q) : ∀ x y, x < q.1.2.2 → y < q.1.2.2 → x ≠ y → G.2.2.1 ct x ≠ G.2.2.1 ct y := by
  intro x y hx hy hne
  have ok := zcq_ok hq
  obtain ⟨hS, -⟩ := X.2.2.2.2.2.2.2.2.1.1 ct q hq
  obtain ⟨_, _, _, fa, hia, ea⟩ := hS x hx
  obtain ⟨_, _, _, fb, hib, eb⟩ := hS y hy
  rw [← ea, ← eb]
  refine u_apart (u_lays X.2.2.2.2.1 ok.1 hx) (u_lays X.2.2.2.2.1 ok.1 hy) hia hib ?_
  rw [(State.fieldFound?_type hia (ok.2.2.1 x hx)).1, (State.fieldFound?_type hib (ok.2.2.1 y hy)).1]
  exact ok.2.2.2.1 x hx y hy hne
theorem zFm.put {H0 H H' : Heap} {locs : List Loc} {x : Loc} (h : zFm G H0 H locs) (hx : G.1 ≤ x.base) (e2 : H'.size = H.size) (e3 : ∀ z, z ≠ x.base → H'[z]? = H[z]?) : zFm G H0 H' (locs ++ [x]) :=
  ⟨by rw [e2]; exact h.1, fun q hq => by rw [e3 q (fun z => absurd hx (by rw [← z]; omega))]; exact h.2.1 q hq, fun y hy => by
    rcases List.mem_append.mp hy with hy | hy
    · exact h.2.2 y hy
    · rw [List.mem_singleton.mp hy]; exact hx⟩
theorem zSv.put {M : ZM} {H H' : Heap} {x : Nat} (h : zSv G M s H) (hx : G.1 ≤ x) (e3 : ∀ z, z ≠ x → H'[z]? = H[z]?) : zSv G M s H' := h.moved (Vm.Alike.refl _) (zExt.rf M) (fun q hq => e3 q (by omega))
theorem zc_put {idx f : Nat} {ct t a v bo : Int} {q : vw_C × (Nat → FieldType) × List Int} (X : zCX p s m args meth c G k) (hm : (zon k, idx, ct, f) ∈ zlf) (hq : zcq ct = some q) (hf0 : f < q.1.2.2) (ht : q.2.2.getD f 0 = t) (hfin : (q.1.2.1 f).2.2.2 = false ∨ zkd k = 2 ∧ q.1.1 = zcn (zon k)) (hbo : q.2.1 f = .boolean → bo = 1) (hb : bo = 1 → v = 0 ∨ v = 1) (hmut : zmut ct) (ha : a % 512 = ct) (hdg : decode (zb k) pc = .ok (.putfield idx, 3)) (hk : zCont p l e R s m args below meth c Q G M0 b0 b1 (pc + 3) ls st (up S a f v)) : zCont p l e R s m args below meth c Q G M0 b0 b1 pc ls ((t, v) :: (ct, a) :: st) S := by
  intro M H locs lj sj hl hs hH he hf hv h0 h1
  obtain ⟨y, s1, rfl, hy, hs1⟩ := zSt_cons hs
  obtain ⟨x, s2, rfl, hx, hs2⟩ := zSt_cons hs1
  have hct := zcq_tag hq
  obtain ⟨-, hMa, rfl⟩ := zV_obj hx hct.1 (by intro z; rw [z] at ha; omega)
  have hq2 : zcq (a % 512) = some q := by rw [ha]; exact hq
  obtain ⟨cell, c1, c2, c3, c4⟩ := hH.ob hMa (q := q) hq2
  obtain ⟨q', hq', hw⟩ := zlf_ok _ hm
  cases hq.symm.trans hq'
  have ok := zcq_ok hq
  obtain ⟨hS, hfc, kC, hkC, hkind⟩ := X.2.2.2.2.2.2.2.2.1.1 ct q hq
  obtain ⟨cf, kf, fi, fd, hi, hsl⟩ := hS f hf0
  have hT1 := (ok.2.2.2.2.1 f hf0).1
  have hT2 := (ok.2.2.2.2.1 f hf0).2
  have hL := u_lays X.2.2.2.2.1 ok.1 hf0
  have hlay := X.2.2.2.2.1 _ (ok.1 _ (u_in_lay hf0))
  rw [hT1] at hi hL
  have hst := (u_facts hfc hkC hL hi).1
  obtain ⟨hn1, hn2⟩ := zfits (M := M) (v := v) (x := y) hT2 (by rw [ht]; exact hy) (fun z => hb (hbo z))
  have hd := ok.2.2.1 f hf0
  have hsl2 : fd.slot < cell.slots.size := by
    obtain ⟨z, g1, -⟩ := c4 f hf0
    rw [hsl, ← ha]
    exact (Array.getElem?_eq_some_iff.mp g1).1
  have hG1 : G.1 ≤ M.1 a := (hH.2.2.1 a hMa (by rw [ha]; exact hmut)).1
  have hn0 : (0 : Int) ≠ a := by intro z; rw [← z] at ha; omega
  have fin : ∀ H' : Heap, H'[M.1 a]? = some (cell.setSlot fd.slot y) → H'.size = H.size → (∀ z, z ≠ M.1 a → H'[z]? = H[z]?) → W p l e R s m args below meth c H' (locs ++ [⟨M.1 a, fd.slot⟩]) (S 0 0 - b0).toNat (S 0 1 - b1).toNat Q (F0 m (pc + 3) lj s2) := by
    intro H' e1 e2 e3
    rw [hsl, ← ha] at e1
    have hR := zob_put hH hMa hq2 hf0 c1 c2 c3 c4 (by rw [ha]; exact zap X hq) (by rw [ht]; exact hy) e1 e2 e3
    have := hk M H' (locs ++ [⟨M.1 a, fd.slot⟩]) lj s2 hl hs2 hR he (hf.put hG1 e2 e3) (hv.put hG1 e3) (by rw [up_ne S hn0]; exact h0) (by rw [up_ne S hn0]; exact h1)
    rw [up_ne S hn0, up_ne S hn0] at this
    exact this
  by_cases hfn : (q.1.2.1 f).2.2.2 = false
  · unfold u_lay at hlay
    rw [if_neg (by rw [hfn]; decide), hT1] at hlay
    have h6 := u_store hfc hkC hkind hlay hi hd hn1 hn2
    exact W.putK X.1 X.2.1 (f := fd) ⟨X.2.2.2.1, X.2.2.2.2.1 _ hw, ⟨_, _, _, hi⟩, hst⟩ (by rw [c2, ha]; exact h6) c1 c3 hsl2 rfl rfl hdg fin
  · rcases hfin with z | ⟨z1, z2⟩
    · exact absurd z hfn
    · unfold u_lay at hlay
      rw [if_pos (by simpa using hfn), hT1] at hlay
      have hcf : m.cls = cf := by
        obtain ⟨_, _, c', _, _, _, -, -, hf', -, -, -, hown2, -⟩ := Cond.laysFinal_spec hlay
        have e1 : c' = cf := by have := hi.symm.trans hf'; simp at this; exact this.1.symm
        rw [z2] at hown2
        rw [← e1]; exact Option.some.inj (X.2.2.2.1.symm.trans hown2)
      have h6 := u_fits hfc hkC hkind (Or.inr hlay) hi hd hn1 hn2
      exact W.putFinK X.1 X.2.1 X.2.2.2.1 (X.2.2.2.2.1 _ hw) hi hst hcf (X.2.2.2.2.2.2.2.1 z1) (by rw [c2, ha]; exact h6) c1 c3 hsl2 rfl rfl hdg fin
theorem zc_putN {idx f : Nat} {ct t a v bo : Int} {host : String} {q : vw_C × (Nat → FieldType) × List Int} (X : zCX p s m args meth c G k) (hm : (zon k, idx, ct, f, host) ∈ zlfN) (hq : zcq ct = some q) (hf0 : f < q.1.2.2) (ht : q.2.2.getD f 0 = t) (hfn : (q.1.2.1 f).2.2.2 = false) (hbo : q.2.1 f = .boolean → bo = 1) (hb : bo = 1 → v = 0 ∨ v = 1) (hmut : zmut ct) (ha : a % 512 = ct) (hdg : decode (zb k) pc = .ok (.putfield idx, 3)) (hk : zCont p l e R s m args below meth c Q G M0 b0 b1 (pc + 3) ls st (up S a f v)) : zCont p l e R s m args below meth c Q G M0 b0 b1 pc ls ((t, v) :: (ct, a) :: st) S := by
  intro M H locs lj sj hl hs hH he hf hv h0 h1
  obtain ⟨y, s1, rfl, hy, hs1⟩ := zSt_cons hs
  obtain ⟨x, s2, rfl, hx, hs2⟩ := zSt_cons hs1
  have hct := zcq_tag hq
  obtain ⟨-, hMa, rfl⟩ := zV_obj hx hct.1 (by intro z; rw [z] at ha; omega)
  have hq2 : zcq (a % 512) = some q := by rw [ha]; exact hq
  obtain ⟨cell, c1, c2, c3, c4⟩ := hH.ob hMa (q := q) hq2
  have hw := X.2.2.2.2.2.2.2.2.1.2.2.2.1 _ hm q hq
  have ok := zcq_ok hq
  obtain ⟨hS, hfc, kC, hkC, hkind⟩ := X.2.2.2.2.2.2.2.2.1.1 ct q hq
  obtain ⟨cf, kf, fi, fd, hi, hsl⟩ := hS f hf0
  have hT1 := (ok.2.2.2.2.1 f hf0).1
  have hT2 := (ok.2.2.2.2.1 f hf0).2
  have hL := u_lays X.2.2.2.2.1 ok.1 hf0
  have hlay := X.2.2.2.2.1 _ (ok.1 _ (u_in_lay hf0))
  rw [hT1] at hi hL
  have hst := (u_facts hfc hkC hL hi).1
  obtain ⟨hn1, hn2⟩ := zfits (M := M) (v := v) (x := y) hT2 (by rw [ht]; exact hy) (fun z => hb (hbo z))
  have hd := ok.2.2.1 f hf0
  have hsl2 : fd.slot < cell.slots.size := by
    obtain ⟨z, g1, -⟩ := c4 f hf0
    rw [hsl, ← ha]
    exact (Array.getElem?_eq_some_iff.mp g1).1
  have hG1 : G.1 ≤ M.1 a := (hH.2.2.1 a hMa (by rw [ha]; exact hmut)).1
  have hn0 : (0 : Int) ≠ a := by intro z; rw [← z] at ha; omega
  unfold u_lay at hlay
  rw [if_neg (by rw [hfn]; decide), hT1] at hlay
  have h6 := u_store hfc hkC hkind hlay hi hd hn1 hn2
  refine va_WputK X.1 X.2.1 (f := fd) X.2.2.2.1 (va_Nw.use rfl hw) hi hst (by rw [c2, ha]; exact h6) c1 c3 hsl2 rfl rfl hdg ?_
  intro H' e1 e2 e3
  rw [hsl, ← ha] at e1
  have hR := zob_put hH hMa hq2 hf0 c1 c2 c3 c4 (by rw [ha]; exact zap X hq) (by rw [ht]; exact hy) e1 e2 e3
  have := hk M H' (locs ++ [⟨M.1 a, fd.slot⟩]) lj s2 hl hs2 hR he (hf.put hG1 e2 e3) (hv.put hG1 e3) (by rw [up_ne S hn0]; exact h0) (by rw [up_ne S hn0]; exact h1)
  rw [up_ne S hn0, up_ne S hn0] at this
  exact this
/-- an array at hand -/
theorem zarr {a t : Int} {ty : FieldType} {n0 et : Int} {M : ZM} {H : Heap} (X : zCX p s m args meth c G k) (hH : zHR G M S H) (hMa : M.2 a) (ha : a % 512 = t) (hq : zat t = some (ty, n0, et)) : ∃ cell : Cell, H[M.1 a]? = some cell ∧ cell.cls = G.2.2.2.1 t ∧ s.isArrayOf cell ty ∧ cell.vm ≠ .unknown ∧ (cell.slots.size : Int) = zlen n0 a ∧ (cell.slots.size : Int) < 1000000 ∧ ∀ j : Nat, j < cell.slots.size → ∃ x, cell.slots[j]? = some x ∧ zV M (et, S a j) x ∧ fits ty x = true := by
  subst ha
  obtain ⟨cell, c1, c2, c3, c4, c5, c6, c7⟩ := hH.ar hMa hq
  obtain ⟨kA, comp, g1, g2, -⟩ := X.2.2.2.2.2.2.2.2.1.2.1 _ ty n0 et hq
  exact ⟨cell, c1, c2, ⟨c4, kA, by rw [c2]; exact g1, comp, g2⟩, c3, c5, c6, c7⟩
theorem zidx {i : Int32} {n : Nat} (h : 0 ≤ i.toInt) (h2 : i.toInt < (n : Int)) : ¬ (i < 0 ∨ n ≤ i.toNatClampNeg) ∧ i.toNatClampNeg < n ∧ (i.toNatClampNeg : Int) = i.toInt := by
  have e : i.toNatClampNeg = i.toInt.toNat := rfl
  refine ⟨?_, by omega, by omega⟩
  rintro (q | q)
  · have := (lz i).mp q; omega
  · omega
theorem zc_iaload {a t i n0 et : Int} (X : zCX p s m args meth c G k) (hq : zat t = some (.int, n0, et)) (ha : a % 512 = t) (h3 : 0 ≤ i) (h4 : i < zlen n0 a) (hdg : decode (zb k) pc = .ok (.iaload, 1)) (hk : zCont p l e R s m args below meth c Q G M0 b0 b1 (pc + 1) ls ((et, S a i) :: st) S) : zCont p l e R s m args below meth c Q G M0 b0 b1 pc ls ((0, i) :: (t, a) :: st) S := by
  intro M H locs lj sj hl hs hH he hf hv h0 h1
  obtain ⟨y, s1, rfl, hy, hs1⟩ := zSt_cons hs
  obtain ⟨x, s2, rfl, hx, hs2⟩ := zSt_cons hs1
  obtain ⟨j, rfl, rfl⟩ := zV_int hy
  have htt := zat_tag hq
  obtain ⟨-, hMa, rfl⟩ := zV_obj hx (by omega) (by intro z; rw [z] at ha; omega)
  obtain ⟨cell, c1, c2, c3, c4, c5, c6, c7⟩ := zarr X hH hMa ha hq
  obtain ⟨g1, g2, g3⟩ := zidx (n := cell.slots.size) h3 (by omega)
  obtain ⟨v, v1, v2, -⟩ := c7 _ g2
  rw [g3] at v2
  exact W.iald X.1 X.2.1 c1 c3 c4 g1 v1 rfl rfl hdg (hk M H locs lj _ hl ⟨v2, hs2⟩ hH he hf hv h0 h1)
theorem zc_baload {a t i n0 et : Int} (X : zCX p s m args meth c G k) (hq : zat t = some (.byte, n0, et)) (ha : a % 512 = t) (h3 : 0 ≤ i) (h4 : i < zlen n0 a) (hdg : decode (zb k) pc = .ok (.baload, 1)) (hk : zCont p l e R s m args below meth c Q G M0 b0 b1 (pc + 1) ls ((et, S a i) :: st) S) : zCont p l e R s m args below meth c Q G M0 b0 b1 pc ls ((0, i) :: (t, a) :: st) S := by
  intro M H locs lj sj hl hs hH he hf hv h0 h1
  obtain ⟨y, s1, rfl, hy, hs1⟩ := zSt_cons hs
  obtain ⟨x, s2, rfl, hx, hs2⟩ := zSt_cons hs1
  obtain ⟨j, rfl, rfl⟩ := zV_int hy
  have htt := zat_tag hq
  obtain ⟨-, hMa, rfl⟩ := zV_obj hx (by omega) (by intro z; rw [z] at ha; omega)
  obtain ⟨cell, c1, c2, c3, c4, c5, c6, c7⟩ := zarr X hH hMa ha hq
  obtain ⟨g1, g2, g3⟩ := zidx (n := cell.slots.size) h3 (by omega)
  obtain ⟨v, v1, v2, -⟩ := c7 _ g2
  rw [g3] at v2
  exact W.bald X.1 X.2.1 c1 c3 c4 g1 v1 rfl rfl hdg (hk M H locs lj _ hl ⟨v2, hs2⟩ hH he hf hv h0 h1)
theorem zc_zaload {a t i n0 et : Int} (X : zCX p s m args meth c G k) (hq : zat t = some (.boolean, n0, et)) (ha : a % 512 = t) (h3 : 0 ≤ i) (h4 : i < zlen n0 a) (hdg : decode (zb k) pc = .ok (.baload, 1)) (hk : zCont p l e R s m args below meth c Q G M0 b0 b1 (pc + 1) ls ((et, S a i) :: st) S) : zCont p l e R s m args below meth c Q G M0 b0 b1 pc ls ((0, i) :: (t, a) :: st) S := by
  intro M H locs lj sj hl hs hH he hf hv h0 h1
  obtain ⟨y, s1, rfl, hy, hs1⟩ := zSt_cons hs
  obtain ⟨x, s2, rfl, hx, hs2⟩ := zSt_cons hs1
  obtain ⟨j, rfl, rfl⟩ := zV_int hy
  have htt := zat_tag hq
  obtain ⟨-, hMa, rfl⟩ := zV_obj hx (by omega) (by intro z; rw [z] at ha; omega)
  obtain ⟨cell, c1, c2, c3, c4, c5, c6, c7⟩ := zarr X hH hMa ha hq
  obtain ⟨g1, g2, g3⟩ := zidx (n := cell.slots.size) h3 (by omega)
  obtain ⟨v, v1, v2, -⟩ := c7 _ g2
  rw [g3] at v2
  exact W.zald X.1 X.2.1 c1 c3 c4 g1 v1 rfl rfl hdg (hk M H locs lj _ hl ⟨v2, hs2⟩ hH he hf hv h0 h1)
theorem zc_saload {a t i n0 et : Int} (X : zCX p s m args meth c G k) (hq : zat t = some (.short, n0, et)) (ha : a % 512 = t) (h3 : 0 ≤ i) (h4 : i < zlen n0 a) (hdg : decode (zb k) pc = .ok (.saload, 1)) (hk : zCont p l e R s m args below meth c Q G M0 b0 b1 (pc + 1) ls ((et, S a i) :: st) S) : zCont p l e R s m args below meth c Q G M0 b0 b1 pc ls ((0, i) :: (t, a) :: st) S := by
  intro M H locs lj sj hl hs hH he hf hv h0 h1
  obtain ⟨y, s1, rfl, hy, hs1⟩ := zSt_cons hs
  obtain ⟨x, s2, rfl, hx, hs2⟩ := zSt_cons hs1
  obtain ⟨j, rfl, rfl⟩ := zV_int hy
  have htt := zat_tag hq
  obtain ⟨-, hMa, rfl⟩ := zV_obj hx (by omega) (by intro z; rw [z] at ha; omega)
  obtain ⟨cell, c1, c2, c3, c4, c5, c6, c7⟩ := zarr X hH hMa ha hq
  obtain ⟨g1, g2, g3⟩ := zidx (n := cell.slots.size) h3 (by omega)
  obtain ⟨v, v1, v2, -⟩ := c7 _ g2
  rw [g3] at v2
  exact W.sald X.1 X.2.1 c1 c3 c4 g1 v1 rfl rfl hdg (hk M H locs lj _ hl ⟨v2, hs2⟩ hH he hf hv h0 h1)
theorem zc_laload {a t i n0 et : Int} (X : zCX p s m args meth c G k) (hq : zat t = some (.long, n0, et)) (ha : a % 512 = t) (h3 : 0 ≤ i) (h4 : i < zlen n0 a) (hdg : decode (zb k) pc = .ok (.laload, 1)) (hk : zCont p l e R s m args below meth c Q G M0 b0 b1 (pc + 1) ls ((et, S a i) :: st) S) : zCont p l e R s m args below meth c Q G M0 b0 b1 pc ls ((0, i) :: (t, a) :: st) S := by
  intro M H locs lj sj hl hs hH he hf hv h0 h1
  obtain ⟨y, s1, rfl, hy, hs1⟩ := zSt_cons hs
  obtain ⟨x, s2, rfl, hx, hs2⟩ := zSt_cons hs1
  obtain ⟨j, rfl, rfl⟩ := zV_int hy
  have htt := zat_tag hq
  obtain ⟨-, hMa, rfl⟩ := zV_obj hx (by omega) (by intro z; rw [z] at ha; omega)
  obtain ⟨cell, c1, c2, c3, c4, c5, c6, c7⟩ := zarr X hH hMa ha hq
  obtain ⟨g1, g2, g3⟩ := zidx (n := cell.slots.size) h3 (by omega)
  obtain ⟨v, v1, v2, -⟩ := c7 _ g2
  rw [g3] at v2
  exact W.lald X.1 X.2.1 c1 c3 c4 g1 v1 rfl rfl hdg (hk M H locs lj _ hl ⟨v2, hs2⟩ hH he hf hv h0 h1)
theorem zc_aaload {a t i n0 et : Int} {C : String} (X : zCX p s m args meth c G k) (hq : zat t = some (.object C, n0, et)) (ha : a % 512 = t) (h3 : 0 ≤ i) (h4 : i < zlen n0 a) (hdg : decode (zb k) pc = .ok (.aaload, 1)) (hk : zCont p l e R s m args below meth c Q G M0 b0 b1 (pc + 1) ls ((et, S a i) :: st) S) : zCont p l e R s m args below meth c Q G M0 b0 b1 pc ls ((0, i) :: (t, a) :: st) S := by
  intro M H locs lj sj hl hs hH he hf hv h0 h1
  obtain ⟨y, s1, rfl, hy, hs1⟩ := zSt_cons hs
  obtain ⟨x, s2, rfl, hx, hs2⟩ := zSt_cons hs1
  obtain ⟨j, rfl, rfl⟩ := zV_int hy
  have htt := zat_tag hq
  obtain ⟨-, hMa, rfl⟩ := zV_obj hx (by omega) (by intro z; rw [z] at ha; omega)
  obtain ⟨cell, c1, c2, c3, c4, c5, c6, c7⟩ := zarr X hH hMa ha hq
  obtain ⟨g1, g2, g3⟩ := zidx (n := cell.slots.size) h3 (by omega)
  obtain ⟨v, v1, v2, -⟩ := c7 _ g2
  rw [g3] at v2
  exact W.aald X.1 X.2.1 c1 c3 rfl c4 g1 v1 rfl rfl hdg (hk M H locs lj _ hl ⟨v2, hs2⟩ hH he hf hv h0 h1)
/-- an array's place is written: the relation -/
theorem zar_put {a t v : Int} {j : Nat} {ty : FieldType} {n0 et : Int} {M : ZM} {H H' : Heap} {cell : Cell} {x : Value} (X : zCX p s m args meth c G k) (hH : zHR G M S H) (hMa : M.2 a) (ha : a % 512 = t) (hq : zat t = some (ty, n0, et)) (c1 : H[M.1 a]? = some cell) (hj : j < cell.slots.size) (hx : zV M (et, v) x) (hfit : fits ty x = true) (e1 : H'[M.1 a]? = some (cell.setSlot j x)) (e2 : H'.size = H.size) (e3 : ∀ z, z ≠ M.1 a → H'[z]? = H[z]?) : zHR G M (up S a j v) H' := by
  subst ha
  obtain ⟨cell', d1, d2, d3, d4, d5, d6, d7⟩ := hH.ar hMa hq
  cases c1.symm.trans d1
  refine hH.put hMa (fun b i hb => up_ne S hb) e2 e3 (Or.inr (Or.inl ⟨ty, n0, et, _, hq, e1, d2, d3, d4, by simp only [Cell.setSlot, Array.size_setIfInBounds]; exact d5, by simp only [Cell.setSlot, Array.size_setIfInBounds]; exact d6, fun i hi => ?_⟩))
  simp only [Cell.setSlot, Array.size_setIfInBounds] at hi
  by_cases hij : i = j
  · subst hij
    refine ⟨x, ?_, by rw [up_same]; exact hx, hfit⟩
    simp [Cell.setSlot, hj]
  · obtain ⟨y, g1, g2, g3⟩ := d7 i hi
    refine ⟨y, ?_, by rw [up_idx S (by omega)]; exact g2, g3⟩
    simp only [Cell.setSlot]
    rw [Array.getElem?_setIfInBounds, if_neg (Ne.symm hij)]
    exact g1
theorem zc_iastore {a t i v n0 : Int} (X : zCX p s m args meth c G k) (hq : zat t = some (.int, n0, 0)) (ha : a % 512 = t) (hmut : zmut t) (h3 : 0 ≤ i) (h4 : i < zlen n0 a) (hdg : decode (zb k) pc = .ok (.iastore, 1)) (hk : zCont p l e R s m args below meth c Q G M0 b0 b1 (pc + 1) ls st (up S a i v)) : zCont p l e R s m args below meth c Q G M0 b0 b1 pc ls ((0, v) :: (0, i) :: (t, a) :: st) S := by
  intro M H locs lj sj hl hs hH he hf hv h0 h1
  obtain ⟨w0, s0, rfl, hw, hs1⟩ := zSt_cons hs
  obtain ⟨y, s1, rfl, hy, hs2⟩ := zSt_cons hs1
  obtain ⟨x, s2, rfl, hx, hs3⟩ := zSt_cons hs2
  obtain ⟨w, rfl, rfl⟩ := zV_int hw
  obtain ⟨j, rfl, rfl⟩ := zV_int hy
  have htt := zat_tag hq
  obtain ⟨-, hMa, rfl⟩ := zV_obj hx (by omega) (by intro z; rw [z] at ha; omega)
  obtain ⟨cell, c1, c2, c3, c4, c5, c6, c7⟩ := zarr X hH hMa ha hq
  obtain ⟨g1, g2, g3⟩ := zidx (n := cell.slots.size) h3 (by omega)
  have hG1 : G.1 ≤ M.1 a := (hH.2.2.1 a hMa (by rw [ha]; exact hmut)).1
  have hn0 : (0 : Int) ≠ a := by intro z; rw [← z] at ha; omega
  refine W.iast X.1 X.2.1 c1 c3 c4 g1 rfl rfl hdg fun H' e1 e2 e3 => ?_
  have hR := zar_put (v := w.toInt) X hH hMa ha hq c1 g2 (Or.inl ⟨rfl, _, rfl, rfl⟩) (rfl) e1 e2 e3
  rw [g3] at hR
  have := hk M H' _ lj s2 hl hs3 hR he (hf.put (x := ⟨M.1 a, j.toNatClampNeg⟩) hG1 e2 e3) (hv.put hG1 e3) (by rw [up_ne S hn0]; exact h0) (by rw [up_ne S hn0]; exact h1)
  rw [up_ne S hn0, up_ne S hn0] at this
  exact this
theorem zc_bastore {a t i v n0 : Int} (X : zCX p s m args meth c G k) (hq : zat t = some (.byte, n0, 0)) (ha : a % 512 = t) (hmut : zmut t) (h3 : 0 ≤ i) (h4 : i < zlen n0 a) (hdg : decode (zb k) pc = .ok (.bastore, 1)) (hk : zCont p l e R s m args below meth c Q G M0 b0 b1 (pc + 1) ls st (up S a i (w8 v))) : zCont p l e R s m args below meth c Q G M0 b0 b1 pc ls ((0, v) :: (0, i) :: (t, a) :: st) S := by
  intro M H locs lj sj hl hs hH he hf hv h0 h1
  obtain ⟨w0, s0, rfl, hw, hs1⟩ := zSt_cons hs
  obtain ⟨y, s1, rfl, hy, hs2⟩ := zSt_cons hs1
  obtain ⟨x, s2, rfl, hx, hs3⟩ := zSt_cons hs2
  obtain ⟨w, rfl, rfl⟩ := zV_int hw
  obtain ⟨j, rfl, rfl⟩ := zV_int hy
  have htt := zat_tag hq
  obtain ⟨-, hMa, rfl⟩ := zV_obj hx (by omega) (by intro z; rw [z] at ha; omega)
  obtain ⟨cell, c1, c2, c3, c4, c5, c6, c7⟩ := zarr X hH hMa ha hq
  obtain ⟨g1, g2, g3⟩ := zidx (n := cell.slots.size) h3 (by omega)
  have hG1 : G.1 ≤ M.1 a := (hH.2.2.1 a hMa (by rw [ha]; exact hmut)).1
  have hn0 : (0 : Int) ≠ a := by intro z; rw [← z] at ha; omega
  refine W.bast X.1 X.2.1 c1 c3 c4 g1 rfl rfl hdg fun H' e1 e2 e3 => ?_
  have hR := zar_put (v := (w8 w.toInt)) X hH hMa ha hq c1 g2 (Or.inl ⟨rfl, _, rfl, i2b_eq _⟩) (zfit8 _) e1 e2 e3
  rw [g3] at hR
  have := hk M H' _ lj s2 hl hs3 hR he (hf.put (x := ⟨M.1 a, j.toNatClampNeg⟩) hG1 e2 e3) (hv.put hG1 e3) (by rw [up_ne S hn0]; exact h0) (by rw [up_ne S hn0]; exact h1)
  rw [up_ne S hn0, up_ne S hn0] at this
  exact this
theorem zc_sastore {a t i v n0 : Int} (X : zCX p s m args meth c G k) (hq : zat t = some (.short, n0, 0)) (ha : a % 512 = t) (hmut : zmut t) (h3 : 0 ≤ i) (h4 : i < zlen n0 a) (hdg : decode (zb k) pc = .ok (.sastore, 1)) (hk : zCont p l e R s m args below meth c Q G M0 b0 b1 (pc + 1) ls st (up S a i (w16 v))) : zCont p l e R s m args below meth c Q G M0 b0 b1 pc ls ((0, v) :: (0, i) :: (t, a) :: st) S := by
  intro M H locs lj sj hl hs hH he hf hv h0 h1
  obtain ⟨w0, s0, rfl, hw, hs1⟩ := zSt_cons hs
  obtain ⟨y, s1, rfl, hy, hs2⟩ := zSt_cons hs1
  obtain ⟨x, s2, rfl, hx, hs3⟩ := zSt_cons hs2
  obtain ⟨w, rfl, rfl⟩ := zV_int hw
  obtain ⟨j, rfl, rfl⟩ := zV_int hy
  have htt := zat_tag hq
  obtain ⟨-, hMa, rfl⟩ := zV_obj hx (by omega) (by intro z; rw [z] at ha; omega)
  obtain ⟨cell, c1, c2, c3, c4, c5, c6, c7⟩ := zarr X hH hMa ha hq
  obtain ⟨g1, g2, g3⟩ := zidx (n := cell.slots.size) h3 (by omega)
  have hG1 : G.1 ≤ M.1 a := (hH.2.2.1 a hMa (by rw [ha]; exact hmut)).1
  have hn0 : (0 : Int) ≠ a := by intro z; rw [← z] at ha; omega
  refine W.sast X.1 X.2.1 c1 c3 c4 g1 rfl rfl hdg fun H' e1 e2 e3 => ?_
  have hR := zar_put (v := (w16 w.toInt)) X hH hMa ha hq c1 g2 (Or.inl ⟨rfl, _, rfl, i2s_eq _⟩) (zfit16 _) e1 e2 e3
  rw [g3] at hR
  have := hk M H' _ lj s2 hl hs3 hR he (hf.put (x := ⟨M.1 a, j.toNatClampNeg⟩) hG1 e2 e3) (hv.put hG1 e3) (by rw [up_ne S hn0]; exact h0) (by rw [up_ne S hn0]; exact h1)
  rw [up_ne S hn0, up_ne S hn0] at this
  exact this
theorem zc_zastore {a t i v n0 : Int} (X : zCX p s m args meth c G k) (hq : zat t = some (.boolean, n0, 0)) (ha : a % 512 = t) (hmut : zmut t) (h3 : 0 ≤ i) (h4 : i < zlen n0 a) (hb : v = 0 ∨ v = 1) (hdg : decode (zb k) pc = .ok (.bastore, 1)) (hk : zCont p l e R s m args below meth c Q G M0 b0 b1 (pc + 1) ls st (up S a i v)) : zCont p l e R s m args below meth c Q G M0 b0 b1 pc ls ((0, v) :: (0, i) :: (t, a) :: st) S := by
  intro M H locs lj sj hl hs hH he hf hv h0 h1
  obtain ⟨w0, s0, rfl, hw, hs1⟩ := zSt_cons hs
  obtain ⟨y, s1, rfl, hy, hs2⟩ := zSt_cons hs1
  obtain ⟨x, s2, rfl, hx, hs3⟩ := zSt_cons hs2
  obtain ⟨w, rfl, rfl⟩ := zV_int hw
  obtain ⟨j, rfl, rfl⟩ := zV_int hy
  have htt := zat_tag hq
  obtain ⟨-, hMa, rfl⟩ := zV_obj hx (by omega) (by intro z; rw [z] at ha; omega)
  obtain ⟨cell, c1, c2, c3, c4, c5, c6, c7⟩ := zarr X hH hMa ha hq
  obtain ⟨g1, g2, g3⟩ := zidx (n := cell.slots.size) h3 (by omega)
  have hG1 : G.1 ≤ M.1 a := (hH.2.2.1 a hMa (by rw [ha]; exact hmut)).1
  have hn0 : (0 : Int) ≠ a := by intro z; rw [← z] at ha; omega
  refine W.zast X.1 X.2.1 c1 c3 c4 g1 rfl rfl hdg fun H' e1 e2 e3 => ?_
  have hR := zar_put (v := w.toInt) X hH hMa ha hq c1 g2 (zfz hb) (zfzf hb) e1 e2 e3
  rw [g3] at hR
  have := hk M H' _ lj s2 hl hs3 hR he (hf.put (x := ⟨M.1 a, j.toNatClampNeg⟩) hG1 e2 e3) (hv.put hG1 e3) (by rw [up_ne S hn0]; exact h0) (by rw [up_ne S hn0]; exact h1)
  rw [up_ne S hn0, up_ne S hn0] at this
  exact this
theorem zc_lastore {a t i v n0 : Int} (X : zCX p s m args meth c G k) (hq : zat t = some (.long, n0, 1)) (ha : a % 512 = t) (hmut : zmut t) (h3 : 0 ≤ i) (h4 : i < zlen n0 a) (hdg : decode (zb k) pc = .ok (.lastore, 1)) (hk : zCont p l e R s m args below meth c Q G M0 b0 b1 (pc + 1) ls st (up S a i v)) : zCont p l e R s m args below meth c Q G M0 b0 b1 pc ls ((1, v) :: (0, i) :: (t, a) :: st) S := by
  intro M H locs lj sj hl hs hH he hf hv h0 h1
  obtain ⟨w0, s0, rfl, hw, hs1⟩ := zSt_cons hs
  obtain ⟨y, s1, rfl, hy, hs2⟩ := zSt_cons hs1
  obtain ⟨x, s2, rfl, hx, hs3⟩ := zSt_cons hs2
  obtain ⟨w, rfl, rfl⟩ := zV_long hw
  obtain ⟨j, rfl, rfl⟩ := zV_int hy
  have htt := zat_tag hq
  obtain ⟨-, hMa, rfl⟩ := zV_obj hx (by omega) (by intro z; rw [z] at ha; omega)
  obtain ⟨cell, c1, c2, c3, c4, c5, c6, c7⟩ := zarr X hH hMa ha hq
  obtain ⟨g1, g2, g3⟩ := zidx (n := cell.slots.size) h3 (by omega)
  have hG1 : G.1 ≤ M.1 a := (hH.2.2.1 a hMa (by rw [ha]; exact hmut)).1
  have hn0 : (0 : Int) ≠ a := by intro z; rw [← z] at ha; omega
  refine W.last X.1 X.2.1 c1 c3 c4 g1 rfl rfl hdg fun H' e1 e2 e3 => ?_
  have hR := zar_put (v := w.toInt) X hH hMa ha hq c1 g2 (Or.inr (Or.inl ⟨rfl, _, rfl, rfl⟩)) (rfl) e1 e2 e3
  rw [g3] at hR
  have := hk M H' _ lj s2 hl hs3 hR he (hf.put (x := ⟨M.1 a, j.toNatClampNeg⟩) hG1 e2 e3) (hv.put hG1 e3) (by rw [up_ne S hn0]; exact h0) (by rw [up_ne S hn0]; exact h1)
  rw [up_ne S hn0, up_ne S hn0] at this
  exact this
theorem zc_aastore {a t i v n0 et : Int} {C : String} {q : vw_C × (Nat → FieldType) × List Int} (X : zCX p s m args meth c G k) (hq : zat t = some (.object C, n0, et)) (hqe : zcq et = some q) (hC : q.1.1 = C) (ha : a % 512 = t) (hmut : zmut t) (h3 : 0 ≤ i) (h4 : i < zlen n0 a) (hv0 : v ≠ 0) (hdg : decode (zb k) pc = .ok (.aastore, 1)) (hk : zCont p l e R s m args below meth c Q G M0 b0 b1 (pc + 1) ls st (up S a i v)) : zCont p l e R s m args below meth c Q G M0 b0 b1 pc ls ((et, v) :: (0, i) :: (t, a) :: st) S := by
  intro M H locs lj sj hl hs hH he hf hv h0 h1
  obtain ⟨w0, s0, rfl, hw, hs1⟩ := zSt_cons hs
  obtain ⟨y, s1, rfl, hy, hs2⟩ := zSt_cons hs1
  obtain ⟨x, s2, rfl, hx, hs3⟩ := zSt_cons hs2
  have hct := zcq_tag hqe
  have hw' := hw
  obtain ⟨hve, hMv, rfl⟩ := zV_obj hw' hct.1 hv0
  obtain ⟨j, rfl, rfl⟩ := zV_int hy
  have htt := zat_tag hq
  obtain ⟨-, hMa, rfl⟩ := zV_obj hx (by omega) (by intro z; rw [z] at ha; omega)
  obtain ⟨cell, c1, c2, c3, c4, c5, c6, c7⟩ := zarr X hH hMa ha hq
  obtain ⟨g1, g2, g3⟩ := zidx (n := cell.slots.size) h3 (by omega)
  have hG1 : G.1 ≤ M.1 a := (hH.2.2.1 a hMa (by rw [ha]; exact hmut)).1
  have hn0 : (0 : Int) ≠ a := by intro z; rw [← z] at ha; omega
  obtain ⟨kA, comp, k1, k2, -, k3⟩ := X.2.2.2.2.2.2.2.2.1.2.1 _ _ n0 et hq
  obtain ⟨-, hcls⟩ := X.2.2.2.2.2.2.2.2.1.1 et q hqe
  have hcomp : comp = G.2.1 et := by
    have := k3 C rfl
    rw [← hC] at this
    exact Option.some.inj (this.symm.trans hcls.1)
  obtain ⟨cv, v1, v2, v3, -⟩ := hH.ob hMv (q := q) (by rw [hve]; exact hqe)
  rw [hve] at v2
  obtain ⟨kC, hkC, -⟩ := hcls.2
  refine W.aast X.1 X.2.1 c1 (fun z => c3.1 z) c4 (by rw [c2]; exact k1) k2 rfl (by rw [hcomp]; exact hkC) ⟨fun z => g1 (Or.inl z), g2⟩ v1 (fun z h => by rw [v3] at h; cases h) (by rw [v2]; exact hkC) (by rw [v2, hcomp]; exact va_assign hcls) rfl rfl hdg fun H' e1 e2 e3 => ?_
  have hR := zar_put (v := v) X hH hMa ha hq c1 g2 hw rfl e1 e2 e3
  rw [g3] at hR
  have := hk M H' _ lj s2 hl hs3 hR he (hf.put (x := ⟨M.1 a, j.toNatClampNeg⟩) hG1 e2 e3) (hv.put hG1 e3) (by rw [up_ne S hn0]; exact h0) (by rw [up_ne S hn0]; exact h1)
  rw [up_ne S hn0, up_ne S hn0] at this
  exact this
theorem zc_alen {a t n0 et : Int} {ty : FieldType} (X : zCX p s m args meth c G k) (hq : zat t = some (ty, n0, et)) (ha : a % 512 = t) (hdg : decode (zb k) pc = .ok (.arraylength, 1)) (hk : zCont p l e R s m args below meth c Q G M0 b0 b1 (pc + 1) ls ((0, zlen n0 a) :: st) S) : zCont p l e R s m args below meth c Q G M0 b0 b1 pc ls ((t, a) :: st) S := by
  intro M H locs lj sj hl hs hH he hf hv h0 h1
  obtain ⟨x, s2, rfl, hx, hs1⟩ := zSt_cons hs
  have htt := zat_tag hq
  obtain ⟨-, hMa, rfl⟩ := zV_obj hx (by omega) (by intro z; rw [z] at ha; omega)
  obtain ⟨cell, c1, c2, c3, c4, c5, c6, c7⟩ := zarr X hH hMa ha hq
  refine W.alen X.1 X.2.1 c1 c3 rfl rfl rfl hdg (hk M H locs lj _ hl ⟨Or.inl ⟨rfl, _, rfl, ?_⟩, hs1⟩ hH he hf hv h0 h1)
  rw [← c5]
  show (Int32.ofNat cell.slots.size).toInt = _
  rw [Int32.toInt_ofNat_of_lt (by omega)]
end Z14
