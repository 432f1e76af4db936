/-! a handler whose class is resolved at its first use -/
theorem zfind_cold {E : CtlPost} {e : Env} {d : Bool} {acts : List Action} {s : State} {f : JFrame} {a : Addr} {Q : Handler → Bool → List Action → State → Prop} {x : Jvm.ClassFile.ExceptionTableEntry} {t : List Jvm.ClassFile.ExceptionTableEntry} {c : ClassId} {cell : Cell} {vm' : Vm} (hx : covers x f.pc = true) (h0 : x.catchType ≠ 0)
    (hg : (Jvm.resolveClass f.method.cls x.catchType).Gives e.toSetting s.vm (.ok c) vm') (hsz : vm'.classes.size ≤ s.vm.classes.size) (hcell : s.heap[a]? = some cell) (hobj : ∀ k, cell.vm ≠ .statics k)
    (hk : ∃ k, vm'.classes[cell.cls]? = some k) (hc : ∃ k, vm'.classes[c]? = some k) (hfit : vm'.assignable cell.cls c = true) :
    wp (findHandler.go f a (x :: t)) Q E e d acts s ↔ Q (.found x.handlerPc) d acts (s.setVm vm') := by
  simp only [covers] at hx
  obtain ⟨h1, h2⟩ : (VmOp.resolveClass f.method.cls x.catchType).answer e s.vm = .ok c ∧ (VmOp.resolveClass f.method.cls x.catchType).tables e s.vm = vm' := hg.op rfl
  have hsz' : ((VmOp.resolveClass f.method.cls x.catchType).tables e s.vm).classes.size ≤ s.vm.classes.size := by rw [h2]; exact hsz
  simp [findHandler.go, hx, h0, W.vmOp_same _ hsz', h1, h2, hcell, hobj, hk, hc, hfit, VmOp.dirties, VmOp.acts]
def zFindsV (e : Env) (s : State) (f : JFrame) (a : Addr) (pc : Nat) (vm' : Vm) : Prop := ∀ (Q : Handler → Bool → List Action → State → Prop) (E : CtlPost) (d : Bool) (acts : List Action), wp (findHandler f a) Q E e d acts s ↔ Q (.found pc) d acts (s.setVm vm')
theorem zcatch_step {e : Env} {s : State} {a : Addr} {f : JFrame} {r : List Frame} {pc : Nat} {vm' : Vm} (hfind : zFindsV e s f a pc vm') :
    (stepThrowing e s a (.java f :: r)).Is ((s.setVm vm').setFrames (.java { f with pc := pc, stack := [.ref a] } :: r)) [] := by
  simp only [stepThrowing, searchFrame, vmDo]
  generalize hr : Sem.go _ e false [] s = res
  obtain ⟨as, rfl, ha⟩ := Sem.eq_ok_of hr (a := Handler.found pc) (s' := s.setVm vm') (acts' := []) (by simp [hfind _ _ _ _])
  exact ⟨rfl, ha⟩
theorem zcaught {tb : Tables} {e : Env} {s target : State} {g : JFrame} {c : Code} {below : List Frame} {a : Addr} {pc : Nat} {vm' : Vm} (h : At s g.method c below) (hfind : zFindsV e ((s.setTop g).pushFrame (.throwing a)) g a pc vm')
    (hrest : Steps tb e below ((s.setVm vm').setTop { g with pc := pc, stack := [.ref a] }) target) : Steps tb e below ((s.setTop g).pushFrame (.throwing a)) target := by
  obtain ⟨hgo, hw⟩ := h.throwing a
  refine Steps.head hgo hw ?_
  rw [stepThread_throwing (frames_entered h.top _), (zcatch_step (s := (s.setTop g).pushFrame (.throwing a)) hfind).1]
  obtain ⟨g₀, hg⟩ := Option.isSome_iff_exists.mp h.top
  obtain ⟨r, hr⟩ := State.topJava?_eq_some.mp hg
  have e1 : (((s.setTop g).pushFrame (.throwing a)).setVm vm').setFrames (.java { g with pc := pc, stack := [.ref a] } :: s.frames.tail) = (((s.setTop g).pushFrame (.throwing a)).setFrames (.java { g with pc := pc, stack := [.ref a] } :: s.frames.tail)).setVm vm' := rfl
  rw [e1, State.pushFrame, State.setFrames_setFrames, State.setTop_of_frames _ hr, State.setFrames_setFrames]
  have hr' : (s.setVm vm').frames = .java g₀ :: r := hr
  rw [State.setTop_of_frames _ hr'] at hrest
  rw [hr]
  exact hrest
theorem zfind1 {e : Env} {s : State} {f : JFrame} {a : Addr} {meth : Method} {code : Code} {x : Jvm.ClassFile.ExceptionTableEntry} {c : ClassId} {cell : Cell} {vm' : Vm} (hm : s.vm.method? f.method = some meth) (hc0 : meth.code = some code) (hx1 : code.exceptionTable.toList = [x]) (hx : covers x f.pc = true) (h0 : x.catchType ≠ 0)
    (hg : (Jvm.resolveClass f.method.cls x.catchType).Gives e.toSetting s.vm (.ok c) vm') (hsz : vm'.classes.size ≤ s.vm.classes.size) (hcell : s.heap[a]? = some cell) (hobj : ∀ k, cell.vm ≠ .statics k)
    (hk : ∃ k, vm'.classes[cell.cls]? = some k) (hc : ∃ k, vm'.classes[c]? = some k) (hfit : vm'.assignable cell.cls c = true) : zFindsV e s f a x.handlerPc vm' := by
  intro Q E d acts
  rw [W.findHandler_eq hm hc0, hx1]
  exact zfind_cold hx h0 hg hsz hcell hobj hk hc hfit
