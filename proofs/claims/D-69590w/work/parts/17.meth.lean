/-! SOUNDNESS 7: contracts of methods, calls, returns -/
def zPc (G : ZG) (M : ZM) (S : Sto) (as : List AV) : Array Value → State → Prop := fun v U => ∃ vs : List Value, v = vs.toArray ∧ zSt M as vs ∧ zHR G M S U.heap ∧ zKn G U ∧ zSv G M U U.heap ∧ G.1 ≤ U.heap.size
def zRv (M : ZM) (r : AV) (v : Option Value) : Prop := (r.1 = 9 ∧ v = none) ∨ (r.1 ≠ 9 ∧ ∃ x, v = some x ∧ zV M r x)
def zQc (G : ZG) (M : ZM) (S' : Sto) (r : AV) : Array Value → State → Outcome → State → Prop := fun _ st o t => ∃ (M' : ZM) (v : Option Value), o = .returned v ∧ zExt M M' ∧ zHR G M' S' t.heap ∧ zRv M' r v ∧ st.heap.size ≤ t.heap.size ∧ ∀ q : Nat, q < G.1 → t.heap[q]? = st.heap[q]?
def zRm (k : Nat) (S S' : Sto) : Room := { frames := zfr k, cells := (S' 0 0 - S 0 0).toNat, slots := (S' 0 1 - S 0 1).toNat, locals := zlo k }
/-- the contract of method k, called with these arguments in this store -/
def zMt (l : Launch) (G : ZG) (k : Nat) (as : List AV) (S S' : Sto) (r : AV) : Prop := ∀ M : ZM, Met l (zy k) (ws_ (zy k) (zb k) (zml k) (zrt k)) (zRm k S S') (zPc G M S as) (zQc G M S' r) (S' 0 0 - S 0 0).toNat (S' 0 1 - S 0 1).toNat (fun q => G.1 ≤ q)
theorem zPc.blind (G : ZG) (M : ZM) (S : Sto) (as : List AV) : FrameBlind (zPc G M S as) := by
  intro a U g mk ⟨vs, h1, h2, h3, h4, h5, h6⟩
  exact ⟨vs, h1, h2, h3, h4.same (s := U) rfl, h5.moved (U := U.calling g mk a) (Vm.Alike.refl U.vm) (zExt.rf M) (fun _ _ => rfl), h6⟩
section Z17
variable {p : Program} {l : Launch} {e : Env} {R : Room} {s : State} {m : MethodId} {args : Array Value} {below : List Frame} {meth : Method} {c : Code} {Q : State → Prop} {G : ZG} {M0 : ZM} {b0 b1 : Int} {k pc : Nat} {ls st : List AV} {S : Sto}
/-- behind a call -/
theorem zafter {d na : Nat} {S1 : Sto} {r : AV} {M : ZM} {H : Heap} {locs : List Loc} {lj : Array Slot} {sj : List Value} (X : zCX p s m args meth c G k) (h00 : S 0 0 ≤ S1 0 0) (h01 : S 0 1 ≤ S1 0 1) (hl : zL M ls lj) (hs : zSt M st sj) (he : zExt M0 M) (hf : zFm G s.heap H locs) (hv : zSv G M s H) (h0 : b0 ≤ S 0 0) (h1 : b1 ≤ S 0 1)
    (hrun : va_Run p l e R s m args below meth c H locs (S 0 0 - b0).toNat (S 0 1 - b1).toNat (S1 0 0 - S 0 0).toNat (S1 0 1 - S 0 1).toNat (F0 m pc lj sj) (sj.drop na) (zQc G M S1 r #[]) (fun q => G.1 ≤ q))
    (hk : zCont p l e R s m args below meth c Q G M0 b0 b1 (pc + 3) ls (zpsh r (st.drop na)) S1) : W p l e R s m args below meth c H locs (S 0 0 - b0).toNat (S 0 1 - b1).toNat Q (F0 m pc lj sj) := by
  refine zrun hrun ?_
  intro v st₀ t L z0 zL' ⟨M', v', hv', hE, hR, hrv, hsz, hold⟩ zvm
  cases hv'
  rw [z0] at hsz hold
  have := hk M' t.heap (locs ++ L) lj (v.toList ++ sj.drop na) (hl.ext hE) (by
      unfold zpsh
      rcases hrv with ⟨h9, rfl⟩ | ⟨h9, x, rfl, hx⟩
      · rw [if_pos h9]
        exact ((zSt_split na hs).2).ext hE
      · rw [if_neg h9]
        exact ⟨hx, ((zSt_split na hs).2).ext hE⟩) hR (he.trans hE) ⟨Nat.le_trans hf.1 hsz, fun q hq => by rw [hold q hq]; exact hf.2.1 q hq, fun y hy => by
      rcases List.mem_append.mp hy with z | z
      · exact hf.2.2 y z
      · exact zL' y z⟩ (hv.moved (Vm.Alike.refl _) hE hold) (by omega) (by omega)
  have e1 : (S1 0 0 - b0).toNat = (S 0 0 - b0).toNat + (S1 0 0 - S 0 0).toNat := by omega
  have e2 : (S1 0 1 - b1).toNat = (S 0 1 - b1).toNat + (S1 0 1 - S 0 1).toNat := by omega
  rw [e1, e2] at this
  exact this
/-- what a call needs of its callee -/
def zcok (k cid na ml : Nat) : Prop := zMok cid ∧ zna cid = na ∧ zml cid = ml ∧ zfr cid + 1 ≤ zfr k ∧ 8 + (zml cid + 11) + zlo cid ≤ zlo k
theorem zrest {M : ZM} {na : Nat} {sj : List Value} (hs : zSt M st sj) (h4 : zw (st.drop na) ≤ 8) : ((sj.drop na).map fun v => v.category).sum ≤ 8 := by
  rw [zSt_w (zSt_split na hs).2]
  exact h4
theorem zstk {na : Nat} {sj : List Value} : sj = ((sj.take na).reverse).reverse ++ sj.drop na := by
  rw [List.reverse_reverse, List.take_append_drop]
theorem zc_callS {idx cid na ml : Nat} {S1 : Sto} {r : AV} (X : zCX p s m args meth c G k) (hc : zcok k cid na ml) (hkd : zkd cid = 0) (hm : (zon k, idx, cid) ∈ zlm) (hR : R.frames = zfr k ∧ R.locals = zlo k) (hna : na ≤ st.length) (h4 : zw (st.drop na) ≤ 8) (hM : zMt l G cid (st.take na).reverse S S1 r) (h00 : S 0 0 ≤ S1 0 0) (h01 : S 0 1 ≤ S1 0 1) (hR1 : S1 0 0 - b0 ≤ R.cells) (hR2 : S1 0 1 - b1 ≤ R.slots) (hlen : ls.length = zml k) (hdg : decode (zb k) pc = .ok (.invokestatic idx, 3))
    (hk : zCont p l e R s m args below meth c Q G M0 b0 b1 (pc + 3) ls (zpsh r (st.drop na)) S1) : zCont p l e R s m args below meth c Q G M0 b0 b1 pc ls st S := by
  intro M H locs lj sj hl hs hH he hf hv h0 h1
  obtain ⟨⟨w1, w2, w3, w4, w5, w6, w7⟩, hn, hml, hf1, hf2⟩ := hc
  rcases w3 with ⟨-, w8, w9⟩ | ⟨q, -⟩ | ⟨q, -⟩
  · refine zafter (na := na) (d := 0) X h00 h01 hl hs he hf hv h0 h1 ?_ hk
    have hlj : (sj.take na).length = na := by rw [List.length_take, zSt_len hs]; omega
    refine va_runS (As := (sj.take na).reverse) (n := zna cid) ⟨X.1, X.2.1, X.2.2.1, X.2.2.2.1, X.2.2.2.2.1⟩ (hM M) (va_cwS _ X.2.2.2.2.1 (lw_S (zlm_ok _ hm) w8 w2 w1) rfl rfl rfl ⟨w6, w7, w9⟩ ⟨by rw [hR.1]; exact hf1, by rw [hR.2]; exact hf2⟩)
      ⟨zPc.blind _ _ _ _, fun U hU hW => ⟨_, rfl, zSt_rev (zSt_split na hs).1, by rw [hU]; exact hH, X.2.2.2.2.2.2.2.2.1.moved hW, hv.moved hW.alike (zExt.rf M) (fun q hq => by rw [hU]), by rw [hU]; exact hH.2.2.2.2⟩⟩ rfl (by rw [List.length_reverse, hlj, hn]) ((zlsz hl).trans hlen) zstk (lv_room (zrest hs h4)) hdg ⟨by omega, by omega⟩
  · rw [hkd] at q; omega
  · rw [hkd] at q; omega
/-- the receiver's class -/
theorem zrecv {M : ZM} {H : Heap} {t a : Int} (X : zCX p s m args meth c G k) (hH : zHR G M S H) (hMa : M.2 a) (ha : a % 512 = t) {C : String} (hC : ztn t = C) (hne : C ≠ "") : ∃ cell : Cell, H[M.1 a]? = some cell ∧ cell.vm.isStatics = false ∧ s.vm.findClass C = some cell.cls := by
  have hKn := X.2.2.2.2.2.2.2.2.1
  unfold ztn at hC
  rcases hH.1 a hMa with ⟨q, cell, g1, g2, g3, g4, -⟩ | ⟨ty, n0, et, cell, g1, -⟩ | ⟨g0, -, -, cell, g1, g2, -, g3, -⟩
  · rw [ha] at g1 g3
    have h37 : t ≠ 37 := fun z => by rw [z] at g1; exact absurd (g1.symm.trans (show zcq 37 = none from rfl)) (by simp)
    have h40 : t ≠ 40 := fun z => by rw [z] at g1; exact absurd (g1.symm.trans (show zcq 40 = none from rfl)) (by simp)
    rw [if_neg h37, if_neg h40, g1] at hC
    exact ⟨cell, g2, by rw [g4]; rfl, by rw [← hC, g3]; exact (hKn.1 t q g1).2.1⟩
  · exfalso
    rw [ha] at g1
    have := zat_tag g1
    rw [if_neg (by omega), if_neg (by omega)] at hC
    cases hz : zcq t with
    | none => rw [hz] at hC; exact hne hC.symm
    | some q => have := (zcq_tag hz).2; omega
  · rw [ha] at g0 g2
    rcases g0 with z | z
    · rw [if_pos z] at hC
      exact ⟨cell, g1, g3, by rw [← hC, g2, z]; exact hKn.2.2.2.2.2.2.1⟩
    · rw [if_neg (by omega), if_pos z] at hC
      exact ⟨cell, g1, g3, by rw [← hC, g2, z]; exact hKn.2.2.2.2.2.2.2⟩
/-- the first argument -/
theorem zfirst {M : ZM} {na : Nat} {sj : List Value} {t : Int} (hs : zSt M st sj) (ht : 10 ≤ t) (hr : zrcv (some t) (st.take na).reverse = true) : ∃ (a : Int) (As : List Value), a % 512 = t ∧ M.2 a ∧ (sj.take na).reverse = .ref (M.1 a) :: As := by
  have h1 := zSt_rev (zSt_split na hs).1
  cases hc : (st.take na).reverse with
  | nil => rw [hc] at hr; simp [zrcv] at hr
  | cons v r =>
    rw [hc] at hr h1
    obtain ⟨x, s2, e1, hx, -⟩ := zSt_cons h1
    obtain ⟨u, a⟩ := v
    simp only [zrcv, decide_eq_true_eq] at hr
    obtain ⟨hu, ha⟩ := hr
    subst hu
    obtain ⟨-, hMa, e2⟩ := zV_obj hx ht (by intro z; rw [z] at ha; omega)
    exact ⟨a, s2, ha, hMa, by rw [e1, e2]⟩
theorem zc_callV {idx cid na ml : Nat} {t : Int} {S1 : Sto} {r : AV} (X : zCX p s m args meth c G k) (hc : zcok k cid na ml) (hkd : zkd cid = 1) (hm : (zon k, idx, cid) ∈ zlm ∨ ∃ host, (zon k, idx, cid, host) ∈ zlmN) (ht : 10 ≤ t) (hC : ztn t = (zy cid).cls) (hne : (zy cid).cls ≠ "") (hrc : zrcv (some t) (st.take na).reverse = true) (hR : R.frames = zfr k ∧ R.locals = zlo k) (hna : na ≤ st.length) (h4 : zw (st.drop na) ≤ 8) (hM : zMt l G cid (st.take na).reverse S S1 r) (h00 : S 0 0 ≤ S1 0 0) (h01 : S 0 1 ≤ S1 0 1) (hR1 : S1 0 0 - b0 ≤ R.cells) (hR2 : S1 0 1 - b1 ≤ R.slots) (hlen : ls.length = zml k) (hdg : decode (zb k) pc = .ok (.invokevirtual idx, 3))
    (hk : zCont p l e R s m args below meth c Q G M0 b0 b1 (pc + 3) ls (zpsh r (st.drop na)) S1) : zCont p l e R s m args below meth c Q G M0 b0 b1 pc ls st S := by
  intro M H locs lj sj hl hs hH he hf hv h0 h1
  obtain ⟨⟨w1, w2, w3, w4, w5, w6, w7⟩, hn, hml, hf1, hf2⟩ := hc
  obtain ⟨a, As, ha, hMa, hAs⟩ := zfirst hs ht hrc
  obtain ⟨cell, g1, g2, g3⟩ := zrecv X hH hMa ha hC hne
  rcases w3 with ⟨q, -⟩ | ⟨-, w8, w9, n', hn', w10⟩ | ⟨q, -⟩
  · rw [hkd] at q; omega
  · refine zafter (na := na) (d := 0) X h00 h01 hl hs he hf hv h0 h1 ?_ hk
    have hlj : (sj.take na).length = na := by rw [List.length_take, zSt_len hs]; omega
    have hAl : As.length = n' := by
      have := congrArg List.length hAs
      rw [List.length_reverse, hlj, List.length_cons] at this
      omega
    have hst : sj = As.reverse ++ .ref (M.1 a) :: sj.drop na := by
      have := @zstk na sj
      rw [hAs, List.reverse_cons, List.append_assoc] at this
      exact this
    have hpre : ∀ U : State, U.heap = H → s.WarmedH U.vm → zPc G M S (st.take na).reverse (Value.ref (M.1 a) :: As).toArray U := fun U hU hW => ⟨_, rfl, by rw [← hAs]; exact zSt_rev (zSt_split na hs).1, by rw [hU]; exact hH, X.2.2.2.2.2.2.2.2.1.moved hW, hv.moved hW.alike (zExt.rf M) (fun q hq => by rw [hU]), by rw [hU]; exact hH.2.2.2.2⟩
    rcases hm with hm | ⟨host, hm⟩
    · exact va_runV (C := (zy cid).cls) (b := M.1 a) (As := As) (n := n') (rest := sj.drop na) (g := F0 m pc lj sj) ⟨X.1, X.2.1, X.2.2.1, X.2.2.2.1, X.2.2.2.2.1⟩ (hM M) (cwV n' X.2.2.2.2.1 (lw_V (zlm_ok _ hm) w8 w9 w2 w1) rfl rfl rfl ⟨rfl, w6, w7, w10⟩ ⟨by rw [hR.1]; exact hf1, by rw [hR.2]; exact hf2⟩)
        ⟨zPc.blind _ _ _ _, ⟨cell, g1, g2, g3⟩, hpre⟩ rfl hAl ((zlsz hl).trans hlen) hst (lv_room (zrest hs h4)) hdg ⟨by omega, by omega⟩
    · have hN : va_Nw (.methodLinkNest (zcn (zon k)) idx (zy cid) host) s := X.2.2.2.2.2.2.2.2.1.2.2.1 (zon k, idx, cid, host) hm
      have hcw := va_cnB (args := args) (own := zcn (zon k)) (host := host) (index := idx) (rm := zRm cid S S1) (R := R) n' X.2.2.2.2.1 (lw_meth w1) rfl rfl rfl hN (X.2.2.2.2.1 _ w2) ⟨w6, w7, w10⟩ ⟨by rw [hR.1]; exact hf1, by rw [hR.2]; exact hf2⟩
      exact va_runVN (own := zcn (zon k)) (host := host) (index := idx) (C := (zy cid).cls) (b := M.1 a) (As := As) (n := n') (rest := sj.drop na) (g := F0 m pc lj sj) ⟨X.1, X.2.1, X.2.2.1, X.2.2.2.1, X.2.2.2.2.1⟩ (hM M) ⟨hcw, X.2.2.2.2.1 _ w8, X.2.2.2.2.1 _ w9⟩
        ⟨zPc.blind _ _ _ _, ⟨cell, g1, g2, g3⟩, hpre⟩ rfl hAl ((zlsz hl).trans hlen) hst (lv_room (zrest hs h4)) hdg ⟨by omega, by omega⟩
  · rw [hkd] at q; omega
theorem zc_callI {idx cid na ml : Nat} {t : Int} {S1 : Sto} {r : AV} (X : zCX p s m args meth c G k) (hc : zcok k cid na ml) (hkd : zkd cid = 2) (hm : (zon k, idx, cid) ∈ zlm ∨ ∃ host, (zon k, idx, cid, host) ∈ zlmN) (ht : 10 ≤ t) (hrc : zrcv (some t) (st.take na).reverse = true) (hR : R.frames = zfr k ∧ R.locals = zlo k) (hna : na ≤ st.length) (h4 : zw (st.drop na) ≤ 8) (hM : zMt l G cid (st.take na).reverse S S1 r) (h00 : S 0 0 ≤ S1 0 0) (h01 : S 0 1 ≤ S1 0 1) (hR1 : S1 0 0 - b0 ≤ R.cells) (hR2 : S1 0 1 - b1 ≤ R.slots) (hlen : ls.length = zml k) (hdg : decode (zb k) pc = .ok (.invokespecial idx, 3))
    (hk : zCont p l e R s m args below meth c Q G M0 b0 b1 (pc + 3) ls (zpsh r (st.drop na)) S1) : zCont p l e R s m args below meth c Q G M0 b0 b1 pc ls st S := by
  intro M H locs lj sj hl hs hH he hf hv h0 h1
  obtain ⟨⟨w1, w2, w3, w4, w5, w6, w7⟩, hn, hml, hf1, hf2⟩ := hc
  obtain ⟨a, As, ha, hMa, hAs⟩ := zfirst hs ht hrc
  rcases w3 with ⟨q, -⟩ | ⟨q, -⟩ | ⟨-, w8, w11, w9, n', hn', w10⟩
  · rw [hkd] at q; omega
  · rw [hkd] at q; omega
  · refine zafter (na := na) (d := 0) X h00 h01 hl hs he hf hv h0 h1 ?_ hk
    have hlj : (sj.take na).length = na := by rw [List.length_take, zSt_len hs]; omega
    have hAl : As.length = n' := by
      have := congrArg List.length hAs
      rw [List.length_reverse, hlj, List.length_cons] at this
      omega
    have hst : sj = As.reverse ++ .ref (M.1 a) :: sj.drop na := by
      have := @zstk na sj
      rw [hAs, List.reverse_cons, List.append_assoc] at this
      exact this
    have hpre : ∀ U : State, U.heap = H → s.WarmedH U.vm → zPc G M S (st.take na).reverse (Value.ref (M.1 a) :: As).toArray U := fun U hU hW => ⟨_, rfl, by rw [← hAs]; exact zSt_rev (zSt_split na hs).1, by rw [hU]; exact hH, X.2.2.2.2.2.2.2.2.1.moved hW, hv.moved hW.alike (zExt.rf M) (fun q hq => by rw [hU]), by rw [hU]; exact hH.2.2.2.2⟩
    have hMM := hM M
    rw [w11] at hMM w1
    rcases hm with hm | ⟨host, hm⟩
    · exact va_runI (b := M.1 a) (As := As) (n := n') (rest := sj.drop na) (g := F0 m pc lj sj) ⟨X.1, X.2.1, X.2.2.1, X.2.2.2.1, X.2.2.2.2.1⟩ hMM (cwI n' X.2.2.2.2.1 (lw_meth w1) rfl rfl rfl (X.2.2.2.2.1 _ w2) (X.2.2.2.2.1 _ (zlm_ok _ hm)) (X.2.2.2.2.1 _ w9) w8 ⟨w6, w7, w10⟩ ⟨by rw [hR.1]; exact hf1, by rw [hR.2]; exact hf2⟩)
        ⟨zPc.blind _ _ _ _, hpre⟩ rfl hAl ((zlsz hl).trans hlen) hst (lv_room (zrest hs h4)) hdg ⟨by omega, by omega⟩
    · have hN : va_Nw (.methodLinkNest (zcn (zon k)) idx (zy cid) host) s := X.2.2.2.2.2.2.2.2.1.2.2.1 (zon k, idx, cid, host) hm
      have hcw := va_cnB (args := args) (own := zcn (zon k)) (host := host) (index := idx) (rm := zRm cid S S1) (R := R) n' X.2.2.2.2.1 (lw_meth w1) rfl rfl rfl hN (X.2.2.2.2.1 _ w2) ⟨w6, w7, w10⟩ ⟨by rw [hR.1]; exact hf1, by rw [hR.2]; exact hf2⟩
      exact va_runIN (own := zcn (zon k)) (host := host) (index := idx) (b := M.1 a) (As := As) (n := n') (rest := sj.drop na) (g := F0 m pc lj sj) ⟨X.1, X.2.1, X.2.2.1, X.2.2.2.1, X.2.2.2.2.1⟩ hMM ⟨hcw, w8, X.2.2.2.2.1 _ w9⟩
        ⟨zPc.blind _ _ _ _, hpre⟩ rfl hAl ((zlsz hl).trans hlen) hst (lv_room (zrest hs h4)) hdg ⟨by omega, by omega⟩
/-- a method's end -/
theorem zc_ret {i : Ins} {r : AV} {len : Nat} (X : zCX p s m args meth c G k) (hr : zret i st = some r) (h8 : r.1 ≠ 8) (hdg : decode (zb k) pc = .ok (i.1, len)) (hty : match i.1, i.2 with
    | .return_, _ => zrt k = none
    | .ireturn, [bo] => (bo = 0 ∧ zrt k = some .int) ∨ (bo = 1 ∧ zrt k = some .boolean)
    | .lreturn, _ => zrt k = some .long
    | .areturn, _ => ∃ C, zrt k = some (.object C)
    | _, _ => False) (hlen : len = 1) : zCont p l e R s m args below meth c (MQ below (zQc G M0 S r) args s (S 0 0 - b0).toNat (S 0 1 - b1).toNat (fun q => G.1 ≤ q)) G M0 b0 b1 pc ls st S := by
  intro M H locs lj sj hl hs hH he hf hv h0 h1
  subst hlen
  have hlocks := X.2.2.2.2.2.2.1
  have hrt := X.2.2.2.2.2.1
  have fin : ∀ v : Option Value, zRv M r v → ∀ t : State, t.heap = H → s.WarmedH t.vm → zQc G M0 S r args s (.returned v) t := fun v hv t ht _ => ⟨M, v, rfl, he, by rw [ht]; exact hH, hv, by rw [ht]; exact hf.1, fun q hq => by rw [ht]; exact hf.2.1 q hq⟩
  obtain ⟨i1, i2⟩ := i
  unfold zret at hr
  split at hr
  · rename_i e1 e2
    simp only at e1 e2 hty hdg
    subst e1; subst e2
    cases hr
    rw [zSt_nil hs]
    exact W.vret X.1 X.2.1 (hrt.trans hty) (fin none (Or.inl ⟨rfl, rfl⟩)) hf.2.2 hdg hlocks
  · rename_i bo t v e1 e2
    simp only at e1 e2 hty hdg
    subst e1; subst e2
    split at hr
    · rename_i hcond
      cases hr
      obtain ⟨ht, hb⟩ := hcond
      subst ht
      obtain ⟨x, s2, rfl, hx, hs1⟩ := zSt_cons hs
      rw [zSt_nil hs1]
      have hx' := hx
      obtain ⟨w, rfl, hw⟩ := zV_int hx
      rcases hty with ⟨-, q⟩ | ⟨q1, q⟩
      · exact W.iret X.1 X.2.1 (hrt.trans q) (fin _ (Or.inr ⟨by simp, _, rfl, hx'⟩)) hf.2.2 hdg hlocks
      · have h01 : w = 0 ∨ w = 1 := zf01 (by rw [hw]; exact hb q1)
        exact W.zret X.1 X.2.1 (hrt.trans q) (by rcases h01 with rfl | rfl <;> rfl) (fin _ (Or.inr ⟨by simp, _, rfl, hx'⟩)) hf.2.2 hdg hlocks
    · cases hr
  · rename_i t v e1 e2
    simp only at e1 e2 hty hdg
    subst e1; subst e2
    split at hr
    · rename_i hcond
      cases hr
      subst hcond
      obtain ⟨x, s2, rfl, hx, hs1⟩ := zSt_cons hs
      rw [zSt_nil hs1]
      have hx' := hx
      obtain ⟨w, rfl, hw⟩ := zV_long hx
      exact W.lret X.1 X.2.1 (hrt.trans hty) (fin _ (Or.inr ⟨by simp, _, rfl, hx'⟩)) hf.2.2 hdg hlocks
    · cases hr
  · rename_i u t v e1 e2
    simp only at e1 e2 hty hdg
    subst e1; subst e2
    split at hr
    · rename_i hcond
      cases hr
      obtain ⟨hcond, ht⟩ := hcond
      obtain ⟨C, hC⟩ := hty
      obtain ⟨x, s2, rfl, hx, hs1⟩ := zSt_cons hs
      rw [zSt_nil hs1]
      have hx' := hx
      have hv : x = .null ∨ ∃ a, x = .ref a := by
        rcases zV_ref hx ht with ⟨-, q⟩ | ⟨-, -, -, q⟩
        · exact Or.inl q
        · exact Or.inr ⟨_, q⟩
      exact W.aret X.1 X.2.1 (hrt.trans hC) (Or.inl ⟨_, rfl⟩) hv (fin _ (Or.inr ⟨by simp; omega, _, rfl, hx'⟩)) hf.2.2 hdg hlocks
    · cases hr
  · cases hr
    exact absurd rfl h8
  · cases hr
end Z17
