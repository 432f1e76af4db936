/-! the law calls its coinOf -/
theorem zcallSW {p : Program} {l : Launch} {e : Env} {R : Room} {s : State} {m : MethodId} {args : Array Value} {below : List Frame} {meth : Method} {c : Code} {T : State} {locs : List Loc} {cells slots : Nat} (X : Stand p l e R s m args below meth c T locs cells slots) (hexec : p.tables.exec = Jvm.exec) {own : String} {index : Nat} {y : MethodName} {bytes : ByteArray} {maxL : Nat} {ret : Option FieldType} {hh : List (Nat × Nat × Nat × Nat)}
    (hown : s.vm.findClass own = some m.cls) (hlink : (Cond.methodLink own index y).before args s = true) (hstat : (Cond.static y).before args s = true) (hinit : (Cond.initialized y.cls).before args s = true)
    (hcode : (Cond.codeWith y bytes maxL ret hh).before args s = true) (hy : y.cls ≠ "java/lang/invoke/MethodHandle" ∧ y.cls ≠ "java/lang/invoke/VarHandle")
    {W : Nat} {Pre : Pt → Array Value → Prop} {Post : Pt → Array Value → Option Value → Pt → Prop} (hK : Back l R p e below s args y 3 W Pre Post)
    {g : JFrame} (hg : g.method = m) (hsize : g.locals.size = c.maxLocals) {argsL rest : List Value} (hlen : ∀ sig, parseMethodDescriptor y.desc = some sig → argsL.length = sig.parameters.length)
    (hstack : g.stack = argsL.reverse ++ rest) (hW : 2 * g.monitorRoom + (rest.map fun v => v.category).sum ≤ W) (hdg : decode c.code g.pc = .ok (.invokestatic index, 3))
    (hpre : ∀ vm₁, s.WarmedH vm₁ → Pre ⟨T.setVm vm₁, locs, cells, slots⟩ argsL.toArray) :
    ∃ (v : Option Value) (vm₁ : Vm) (B : Pt), s.WarmedH vm₁ ∧ Stand p l e R s m args below meth c B.U B.locs B.cells B.slots ∧ Post ⟨T.setVm vm₁, locs, cells, slots⟩ argsL.toArray v B ∧
      ∀ target, Steps p.tables e below (B.U.setTop { g with pc := g.pc + 3, stack := v.toList ++ rest }) target → Steps p.tables e below (T.setTop g) target := by
  obtain ⟨mk, methM, cM, hnamed, hmethM, -, -, -, -, -, -, hsigM⟩ := Cond.codeWith_spec hcode
  have hstatic : methM.isStatic = true := Cond.static_spec hnamed hmethM hstat
  obtain ⟨kP, hkP, -⟩ := className_of_methodNamed hnamed
  have hinitP : kP.init = .initialized := Cond.initialized_spec (findClass_of_methodNamed hnamed) hkP hinit
  obtain ⟨vm₁, X₁, hstep₁⟩ := X.invokestatic hexec hown hlink hnamed hmethM hstatic hkP hinitP hy (g := g) hg (argsL := argsL) (rest := rest) (hlen _ hsigM) hstack hdg
  obtain ⟨v, B, X', hpost, hsteps⟩ := hK m meth c ⟨T.setVm vm₁, locs, cells, slots⟩ { g with stack := rest } (.invokestatic index) mk argsL.toArray X₁ hg hsize hdg hW (X₁.named hnamed) (hpre vm₁ X₁.warmed)
  exact ⟨v, vm₁, B, X₁.warmed, X', hpost, fun target h => hstep₁ _ fun acts => by rw [doInvoke_state]; exact hsteps.trans h⟩
theorem zc_call1 {p : Program} {l : Launch} {e : Env} {R : Room} {s : State} {m : MethodId} {args : Array Value} {below : List Frame} {meth : Method} {c : Code} {Q : State → Prop} {G : ZG} {M0 : ZM} {b0 b1 : Int} {pc idx n : Nat} {ls st : List AV} {S S1 : Sto} {r : AV} {x a b d o t : Int} (ht : 10 ≤ t) (hfl : l.stackTraces = false) (X : zCX p s m args meth c G 411) (hxw : zXw G s) (hidx : Cond.methodLink (zcn (zon 411)) idx (zy 1) ∈ lw_all) (hR : R.frames = zfr 411 ∧ R.locals = zlo 411) (hlen : ls.length = zml 411) (h4 : zw st ≤ 8)
    (hex : zex Cs n 1 (Cs 1 0) (zloc 6 [(11, x), (0, a), (0, b), (0, d), (t, o)]) [] S = some (S1, r)) (hR1 : S1 0 0 - b0 ≤ R.cells) (hR2 : S1 0 1 - b1 ≤ R.slots) (hdg : decode (zb 411) pc = .ok (.invokestatic idx, 3))
    (hk : zCont p l e R s m args below meth c Q G M0 b0 b1 (pc + 3) ls (zpsh r st) S1) : zCont p l e R s m args below meth c Q G M0 b0 b1 pc ls ((t, o) :: (0, d) :: (0, b) :: (0, a) :: (11, x) :: st) S := by
  intro M H locs lj sj hl hs hH he hf hv h0 h1
  have hmono := zmono _ _ _ _ _ _ _ _ (zCsm 0) hex
  have hts := X.2.2.2.2.1
  refine zafter (na := 5) (d := 0) X hmono.1 hmono.2 hl hs he hf hv h0 h1 ?_ hk
  have hlj : (sj.take 5).length = 5 := by rw [List.length_take, zSt_len hs]; simp
  have hfr : R.frames = 15 := hR.1
  have hlo : R.locals = 353 := hR.2
  have hK : Back l R p e below s args (zy 1) 3 8 (PreOf R (S1 0 0 - S 0 0).toNat (S1 0 1 - S 0 1).toNat (fun v U => zPc G M S [(11, x), (0, a), (0, b), (0, d), (t, o)] v U ∧ zXw G U)) (PostOf (zQc G M S1 r) (S1 0 0 - S 0 0).toNat (S1 0 1 - S 0 1).toNat (fun q => G.1 ≤ q)) :=
    va_backW (bytes := zb 1) (maxL := zml 1) (ret := zrt 1) (hh := [(0, 11, 14, 13)]) (zM1 hfl ht hex M) (fun A U g mk h => ⟨zPc.blind _ _ _ _ _ _ _ _ h.1, h.2.moved (State.WarmedH.refl _) (fun _ _ => rfl)⟩) rfl rfl (by rw [hfr]; exact (by decide +kernel : zfr 1 + 1 ≤ 15)) (by rw [hlo]; exact (by decide +kernel : 8 + (zml 1 + 11) + zlo 1 ≤ 353))
      (fun w hw A U hW => by
        rcases List.mem_cons.mp hw with rfl | hw
        · exact pay_in hts lw_self _ zw1_all _ _ hW
        · exact pay_in hts lw_self w hw _ _ hW) List.mem_cons_self (fun A U hW => pay_in hts lw_self _ (lw_g (by decide +kernel) rfl : Cond.initialized (zy 1).cls ∈ lw_all) _ _ hW)
  intro T hT XS
  obtain ⟨v, vm₁, ⟨U', l2, c2, s2⟩, hW₁, X', ⟨g', mk, t, L, e1, e2, hq, q1, hL, q2, q3⟩, stp⟩ := zcallSW XS X.1 X.2.2.2.1 (hts _ hidx) (hts _ (lw_g (by decide +kernel) rfl : Cond.static (zy 1) ∈ lw_all)) (hts _ (lw_g (by decide +kernel) rfl : Cond.initialized (zy 1).cls ∈ lw_all)) (hts _ zw1_all) (by decide +kernel) hK (g := F0 m pc lj sj) rfl ((zlsz hl).trans (hlen.trans X.2.2.1.symm)) (argsL := (sj.take 5).reverse) (rest := sj.drop 5)
    (fun sig hsig => by
      rw [List.length_reverse, hlj]
      have hp : (parseMethodDescriptor (zy 1).desc).map (fun d => d.parameters.length) = some 5 := by decide +kernel
      rw [hsig] at hp
      exact (Option.some.inj hp).symm) zstk (lv_room (zrest hs (by simpa using h4))) (by rw [X.2.1]; exact hdg)
    (fun vm₁ hW₁ => ⟨by show (S 0 0 - b0).toNat + (S1 0 0 - S 0 0).toNat ≤ _; omega, by show (S 0 1 - b1).toNat + (S1 0 1 - S 0 1).toNat ≤ _; omega, ⟨_, rfl, zSt_rev (zSt_split 5 hs).1, by rw [show (T.setVm vm₁).heap = H from hT]; exact hH, X.2.2.2.2.2.2.2.2.1.moved hW₁, hv.moved hW₁.alike (zExt.rf M) (fun q hq => by rw [show (T.setVm vm₁).heap = H from hT]), by rw [show (T.setVm vm₁).heap = H from hT]; exact hH.2.2.2.2⟩, hxw.moved hW₁ (fun q hq => by rw [show (T.setVm vm₁).heap = H from hT]; exact hf.2.1 q hq)⟩)
  dsimp only [Pt.U, Pt.locs, Pt.cells, Pt.slots] at X' e1 e2 q1 q2 q3 stp
  subst q1; subst q2; subst q3
  exact ⟨v, (T.setVm vm₁).calling g' mk (sj.take 5).reverse.toArray, t, U', L, hT, X', hL, e1, e2, hq, stp⟩
