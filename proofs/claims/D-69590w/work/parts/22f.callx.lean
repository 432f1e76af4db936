/-! the call that throws, in the law's coinOf -/
theorem zcallT {p : Program} {l : Launch} {e : Env} {R : Room} {s : State} {m : MethodId} {args : Array Value} {below : List Frame} {meth : Method} {c : Code} {U : State} {locs : List Loc} {cells slots mc ms : Nat} {G : ZG} {M : ZM} {S1 : Sto} {y : MethodName} {Sp : Spec} {P : Array Value → State → Prop} (X : Stand p l e R s m args below meth c U locs cells slots)
    (hM : MetFree l y Sp P (fun _ _ _ _ _ => True) (zQx G M S1 mc ms)) {g : JFrame} (hg : g.method = m) {mk : MethodId} {a : Array Value} (happ : Sp.appliesLoose y e.platform (U.calling g mk a) = true) (hP : P a (U.calling g mk a)) :
    ∃ (ad : Addr) (T' : State) (M' : ZM) (L : List Loc) (ce : Cell), Stand p l e R s m args below meth c T' (locs ++ L) (cells + mc) (slots + ms) ∧ zExt M M' ∧ zHR G M' S1 T'.heap ∧ (∀ x ∈ L, G.1 ≤ x.base) ∧ (∀ q : Nat, q < G.1 → T'.heap[q]? = U.heap[q]?) ∧ U.heap.size ≤ T'.heap.size ∧ T'.heap[ad]? = some ce ∧ T'.vm.findClass zIO = some ce.cls ∧ ce.vm = .none ∧
      Steps p.tables e below (doInvoke e (U.setTop g) [] mk a).1 ((T'.setTop g).pushFrame (.throwing ad)) := by
  subst hg
  have h := X.here
  obtain ⟨mid, hmid⟩ := h.above
  have hfr : (U.setTop g).frames = (.java g :: mid) ++ below := by rw [State.frames_setTop' g h.top, hmid]; rfl
  obtain ⟨o, s₂, hsteps, -, hend, hq⟩ := Steps.callFree hM p X.admits X.cas X.clock (acts := []) hfr happ hP trivial
  rw [State.frames_setTop' g h.top] at hend
  obtain ⟨M', ad, L, ce, rfl, gE, gH, gW, gS, gL, gq, gsz, gce, gcls, gvm⟩ := (hq : zQx G M S1 mc ms a (U.calling g mk a) o s₂)
  have gS' : (U.calling g mk a).sameButNew (s₂.setVm (U.calling g mk a).vm) L mc ms := gS
  obtain ⟨e2, q2, q3, q4, q5, q6⟩ := gS'
  have e3 : s₂ = ({ (U.calling g mk a).setFrames s₂.frames with heap := s₂.heap, slotsUsed := s₂.slotsUsed } : State).setVm s₂.vm := by
    have : s₂ = (s₂.setVm (U.calling g mk a).vm).setVm s₂.vm := rfl
    rw [e2] at this
    exact this
  have hf₂ : s₂.frames = .throwing ad :: .java g :: U.frames.tail := hend
  have hW' : U.WarmedH s₂.vm := gW
  obtain ⟨g₀, hg0⟩ := Option.isSome_iff_exists.mp h.top
  obtain ⟨r, hr⟩ := State.topJava?_eq_some.mp hg0
  have hs₂ : s₂ = ((({ U with heap := s₂.heap, slotsUsed := s₂.slotsUsed } : State).setVm s₂.vm).setTop g).pushFrame (.throwing ad) := by
    have hr' : (({ U with heap := s₂.heap, slotsUsed := s₂.slotsUsed } : State).setVm s₂.vm).frames = .java g₀ :: r := hr
    refine e3.trans ?_
    rw [hf₂, State.calling_eq h.top, State.setFrames_setFrames, State.pushFrame, State.frames_setTop _ hr', State.setTop_of_frames _ hr', State.setFrames_setFrames, hr]
    rfl
  have hsame : U.sameButNew ({ U with heap := s₂.heap, slotsUsed := s₂.slotsUsed } : State) L mc ms := by
    refine ⟨?_, q2, q3, q4, q5, q6⟩
    obtain ⟨t, ht, -⟩ := State.frames_cons hr
    show ({ U with heap := s₂.heap, slotsUsed := s₂.slotsUsed } : State) = { U.setFrames U.frames with heap := s₂.heap, slotsUsed := s₂.slotsUsed }
    rw [State.setFrames_self ht]
  refine ⟨ad, ({ U with heap := s₂.heap, slotsUsed := s₂.slotsUsed } : State).setVm s₂.vm, M', L, ce, ⟨X.admits, X.cas, X.clock, X.frames, X.room, X.hears, X.method, X.code, (X.here.setHeapUsed s₂.heap s₂.slotsUsed).setVm hW'.alike, X.tail, State.WarmedH.trans X.warmed hW', X.limits, X.bytes, X.same.trans (hsame.setVm s.vm)⟩, gE, gH, gL, gq, gsz, gce, gcls, gvm, ?_⟩
  rw [← hs₂]
  exact hsteps
theorem zc_callX {p : Program} {l : Launch} {e : Env} {R : Room} {s : State} {m : MethodId} {args : Array Value} {below : List Frame} {meth : Method} {c : Code} {Q : State → Prop} {G : ZG} {M0 : ZM} {b0 b1 : Int} {ls st : List AV} {S S1 : Sto} {n : Nat} (hfl : l.stackTraces = false) (X : zCX p s m args meth c G 1) (htab : c.exceptionTable.toList = [⟨0, 11, 14, 13⟩]) (hxw : zXw G s) (hR : R.frames = zfr 1 ∧ R.locals = zlo 1) (hlen : ls.length = zml 1)
    (hls5 : ∀ v, ls[5]? = some v → v.1 = 9) (hls4 : ∀ v, ls[4]? = some v → v.1 ≠ 1) (hrc : zrcv (some 11) (st.take 4).reverse = true) (hna : 4 ≤ st.length) (h4 : zw (st.drop 4) ≤ 8) (hw : zw (st.take 4).reverse ≤ zml 44)
    (hex : zex Cs n 44 (Cs 44 0) (zloc (zml 44) (st.take 4).reverse) [] S = some (S1, (8, 0))) (hR1 : S1 0 0 - b0 ≤ R.cells) (hR2 : S1 0 1 - b1 ≤ R.slots)
    (hk : zCont p l e R s m args below meth c Q G M0 b0 b1 16 ls [] S1) : zCont p l e R s m args below meth c Q G M0 b0 b1 7 ls st S := by
  intro M H locs lj sj hl hs hH he hf hv h0 h1
  have hmono := zmono _ _ _ _ _ _ _ _ (zCsm 0) hex
  intro T hT XS
  have hts := X.2.2.2.2.1
  obtain ⟨w1, w2, w3, w4, w5, w6, w7⟩ := zREG_ok 44 (by decide +kernel)
  obtain ⟨a, As, ha, hMa, hAs⟩ := zfirst hs (by decide) hrc
  obtain ⟨cellB, hcB, hoB, hclB⟩ := zrecv X hH hMa ha (C := (zy 44).cls) (by decide +kernel) (by decide +kernel)
  rcases w3 with ⟨q, -⟩ | ⟨-, w8, w9, n', hn', w10⟩ | ⟨q, -⟩
  · exact absurd q (by decide +kernel)
  · obtain ⟨mk, methM, hnamed, hmethM, hstM, habM⟩ := Cond.instanceMethod_spec (hts _ w8)
    obtain ⟨methM', cM, hmethM', hcM, -, hmlM, -, -, -, hsigM⟩ := Cond.code_spec hnamed (hts _ w1)
    cases hmethM.symm.trans hmethM'
    obtain ⟨c2, r2, m2, q1, q2, q3, q4, kP, hkP, hkPi⟩ := Cond.selects_spec (hts _ w9)
    cases hclB.symm.trans q1
    cases (State.methodFound?_of_named hnamed ⟨w6, w7⟩).symm.trans q2
    cases hnamed.symm.trans q3
    have hselP : selectMethod e.platform s.vm cellB.cls mk = .method mk := by rw [Launch.admits_selectMethod XS.admits]; exact q4
    have hlj : (sj.take 4).length = 4 := by rw [List.length_take, zSt_len hs]; omega
    have hst : sj = As.reverse ++ .ref (M.1 a) :: sj.drop 4 := by
      have := @zstk 4 sj
      rw [hAs, List.reverse_cons, List.append_assoc] at this
      exact this
    have hAl : As.length = methM.sig.parameters.length := by
      have h := congrArg List.length hAs
      rw [List.length_reverse, hlj, List.length_cons] at h
      rw [hsigM] at w10
      have w11 : methM.sig.parameters.length = n' := Option.some.inj w10
      have : zna 44 = 4 := by decide +kernel
      omega
    have hsz : lj.size = c.maxLocals := by rw [zlsz hl, hlen]; exact X.2.2.1.symm
    obtain ⟨vm₁, X₁, hstep₁⟩ := XS.invokevirtual X.1 X.2.2.2.1 (hts _ (zlm_ok (zon 1, 7, 44) (by decide +kernel))) hnamed hmethM hstM hkP hkPi ⟨w6, w7⟩ (a := M.1 a) (cell := cellB) (by rw [hT]; exact hcB)
      (fun z h => by rw [h] at hoB; cases hoB) hselP hmethM habM hkP hkPi (g := F0 m 7 lj sj) rfl (argsL := As) (rest := sj.drop 4) hAl hst (by rw [X.2.1]; exact (by decide +kernel : decode (zb 1) 7 = .ok (.invokevirtual 7, 3)))
    have hW1 : s.WarmedH (T.setVm vm₁).vm := X₁.warmed
    obtain ⟨kP₁, hkP₁, heP₁⟩ := hW1.alike.2.2 _ _ hkP
    have hinitP : kP.init = .initialized := Cond.initialized_spec (findClass_of_methodNamed hnamed) hkP (hts _ w2)
    have hfr : R.frames = 9 := hR.1
    have hlo : R.locals = 224 := hR.2
    have hml44 : cM.maxLocals = 5 := hmlM.trans (by decide +kernel)
    have hrest := zrest hs h4
    have happ : (headSpec (ws_ (zy 44) (zb 44) (zml 44) (zrt 44)) (zRm 44 S S1)).appliesLoose (zy 44) e.platform ((T.setVm vm₁).calling (F0 m 7 lj (sj.drop 4)) mk (Value.ref (M.1 a) :: As).toArray) = true := by
      refine Spec.appliesLoose_calling (g := F0 m 7 lj (sj.drop 4)) X₁.here (by rw [X.2.1]; exact (by decide +kernel : decode (zb 1) 7 = .ok (.invokevirtual 7, 3))) (X₁.named hnamed) hkP₁ (by rw [heP₁]; exact hinitP)
        (X₁.room_calling (g := F0 m 7 lj (sj.drop 4)) (R' := zRm 44 S S1) hsz (show (T.setVm vm₁).vm.method? mk = some methM by rw [hW1.alike.method?]; exact hmethM) hcM (by rw [hfr]; exact (by decide +kernel : zfr 44 + 1 ≤ 9)) ?_ (by show _ + (S1 0 0 - S 0 0).toNat ≤ _; omega) (by show _ + (S1 0 1 - S 0 1).toNat ≤ _; omega)) ?_
      · rw [hml44, hlo]
        have h200 : (zRm 44 S S1).locals = 200 := by show zlo 44 = 200; decide +kernel
        rw [h200]
        have := lv_room (m := m) (pc := 7) (ls := lj) (rest := sj.drop 4) hrest
        show 2 * (F0 m 7 lj (sj.drop 4)).monitorRoom + ((sj.drop 4).map fun v => v.category).sum + (5 + 11) + 200 ≤ 224
        omega
      · exact atoms_intro fun w hw => by
          rcases List.mem_cons.mp hw with rfl | hw
          · exact pay_in hts lw_self _ w1 _ _ hW1
          · exact pay_in hts lw_self w hw _ _ hW1
    have hPc : zPc G M S (st.take 4).reverse (Value.ref (M.1 a) :: As).toArray (T.setVm vm₁) := ⟨_, rfl, by rw [← hAs]; exact zSt_rev (zSt_split 4 hs).1, by rw [show (T.setVm vm₁).heap = H from hT]; exact hH, X.2.2.2.2.2.2.2.2.1.moved hW1, hv.moved hW1.alike (zExt.rf M) (fun q hq => by rw [show (T.setVm vm₁).heap = H from hT]), by rw [show (T.setVm vm₁).heap = H from hT]; exact hH.2.2.2.2⟩
    have hXw1 : zXw G (T.setVm vm₁) := hxw.moved hW1 (fun q hq => by rw [show (T.setVm vm₁).heap = H from hT]; exact hf.2.1 q hq)
    obtain ⟨ad, T', M', L, ce, X', gE, gH, gL, gq, gsz, gce, gcls, gvm, hsteps⟩ := zcallT X₁ (zM44x hfl hex hw M) (g := F0 m 7 lj (sj.drop 4)) rfl happ ⟨zPc.blind _ _ _ _ _ _ _ _ hPc, hXw1.moved (State.WarmedH.refl _) (fun _ _ => rfl)⟩
    rw [show (T.setVm vm₁).heap = H from hT] at gq gsz
    -- the handler
    have hpl : e.platform.magicAccessors = ({} : Platform).magicAccessors := by rw [XS.admits.platform]
    obtain ⟨cc, hfcc, hcl⟩ := Cond.classLink_spec X.2.2.2.1 (hts (.classLink "CoinScriptsLaw" 13 zIO) (lw_g (by decide +kernel) rfl)) e.platform hpl
    obtain ⟨hg₁, hwarm₁, hready₁⟩ := State.classEntry (e := e) X'.warmed hcl
    have hcast := hxw.use args (.castable zIO zIO) (by decide +kernel) rfl
    obtain ⟨c3, c4, hc3, hc4, hasg⟩ := Cond.castable_spec hcast
    cases hc3.symm.trans hfcc
    cases hc4.symm.trans hfcc
    have hce : ce.cls = cc := by
      rw [X'.warmed.alike.findClass, hfcc] at gcls
      exact (Option.some.inj gcls).symm
    have hfc2 : (T'.vm.noted m.cls 13 (.cls cc)).findClass zIO = some cc := by rw [hwarm₁.alike.findClass]; exact hfcc
    have hfind : zFindsV e ((T'.setTop (F0 m 7 lj (sj.drop 4))).pushFrame (.throwing ad)) (F0 m 7 lj (sj.drop 4)) ad 14 (T'.vm.noted m.cls 13 (.cls cc)) :=
      zfind1 (x := ⟨0, 11, 14, 13⟩) (meth := meth) (code := c) (cell := ce) (c := cc) (by rw [Stand.throwing_vm]; exact X'.method') X'.code htab rfl (by decide) (by rw [Stand.throwing_vm]; exact hg₁) (by rw [Stand.throwing_vm]; simp [Vm.noted]) (by rw [Stand.throwing_heap]; exact gce) (fun k h => by rw [gvm] at h; cases h)
        (by rw [hce]; exact Vm.classAt_of_findClass hfc2) (Vm.classAt_of_findClass hfc2) (by rw [hce, hwarm₁.alike.assignable]; exact hasg)
    have X2 := X'.noted hwarm₁
    obtain ⟨lv, hl1, hl2⟩ := id hl
    have key : W p l e R s m args below meth c T'.heap (locs ++ L) ((S 0 0 - b0).toNat + (S1 0 0 - S 0 0).toNat) ((S 0 1 - b1).toNat + (S1 0 1 - S 0 1).toNat) Q (F0 m 14 lj [.ref ad]) := by
      refine lv_astore (cc := zb 1) (i := 5) X.1 X.2.1 (by decide +kernel) hl1 (by rw [hlen]; decide +kernel) rfl (fun ls2 h2 => ?_)
      have e1 : (S1 0 0 - b0).toNat = (S 0 0 - b0).toNat + (S1 0 0 - S 0 0).toNat := by omega
      have e2 : (S1 0 1 - b1).toNat = (S 0 1 - b1).toNat + (S1 0 1 - S 0 1).toNat := by omega
      have := hk M' T'.heap (locs ++ L) ls2 [] ⟨_, h2, fun i v hi hv9 => by
          obtain ⟨x, h3, h4'⟩ := hl2 i v hi hv9
          refine ⟨x, List.mem_cons_of_mem _ (List.mem_filter.mpr ⟨h3, ?_⟩), h4'.ext gE⟩
          have hi5 : i ≠ 5 := fun z => by rw [z] at hi; exact hv9 (hls5 v hi)
          have hc := zV_cat h4'
          simp only [Bool.and_eq_true, Bool.not_eq_true', beq_eq_false_iff_ne, ne_eq, Bool.and_eq_false_iff]
          refine ⟨hi5, ?_⟩
          by_cases hi4 : i + 1 = 5
          · right
            have : i = 4 := by omega
            rw [this] at hi
            rw [hc, if_neg (hls4 v hi)]
            decide
          · left; exact hi4⟩ trivial gH (he.trans gE) ⟨Nat.le_trans hf.1 gsz, fun q hq => by rw [gq q hq]; exact hf.2.1 q hq, fun y hy => by
          rcases List.mem_append.mp hy with z | z
          · exact hf.2.2 y z
          · exact gL y z⟩ (hv.moved (Vm.Alike.refl _) gE gq) (by omega) (by omega)
      rw [e1, e2] at this
      exact this
    obtain ⟨t, a1, b1'⟩ := key (T'.setVm (T'.vm.noted m.cls 13 (.cls cc))) rfl X2
    refine ⟨t, hstep₁ _ fun acts => ?_, b1'⟩
    rw [doInvoke_state]
    exact hsteps.trans (zcaught X'.here hfind a1)
  · exact absurd q (by decide +kernel)
