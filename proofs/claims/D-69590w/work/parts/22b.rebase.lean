/-! a walk taken up anew from where it stands, as if the method had been entered there -/
theorem zrebase {p : Program} {l : Launch} {e : Env} {R R' : Room} {s : State} {m : MethodId} {args : Array Value} {below : List Frame} {meth : Method} {c : Code} {T : State} {locs : List Loc} {cells slots : Nat} (X : Stand p l e R s m args below meth c T locs cells slots)
    (h1 : R'.frames ≤ R.frames) (h2 : R'.locals ≤ R.locals) (h3 : cells + R'.cells ≤ R.cells) (h4 : slots + R'.slots ≤ R.slots) : Stand p l e R' (T.setFrames (.invoking m args :: below)) m args below meth c T [] 0 0 := by
  have hcur : T.cur < T.threads.size := State.cur_lt_of_top X.here.top
  have hF : (T.setFrames (.invoking m args :: below)).frames = .invoking m args :: below := State.frames_setFrames _ hcur
  have hm : T.vm.method? m = some meth := X.method'
  have hroom : (T.setFrames (.invoking m args :: below)).hasRoom e.platform R' = true := by
    have h0 := X.room
    obtain ⟨r1, r2, r3, r4⟩ := State.hasRoom_stack h0
    have r5 := State.hasRoom_real h0
    have h := h0
    simp only [State.hasRoom, Bool.and_eq_true, decide_eq_true_eq] at h
    rw [State.localsInUse_invoking X.frames X.method X.code] at r3 r4 r5
    rw [X.frames, List.length_cons] at r1 r2
    have hU : (T.setFrames (.invoking m args :: below)).localsInUse = _ := State.localsInUse_invoking hF (meth := meth) (c := c) hm X.code
    simp only [State.hasRoom, Bool.and_eq_true, decide_eq_true_eq, hF, hU, List.length_cons, State.stackLimits_setFrames, State.stackBytes_setFrames, X.limits, X.bytes]
    have hb := X.book
    refine ⟨⟨⟨⟨by omega, by omega, by omega, by omega, by omega, h.1.1.1.2.2.2.2.2⟩, ?_⟩, ?_⟩, hb⟩
    · have := h.1.1.2
      have := X.heapSize
      show T.heap.size + R'.cells ≤ e.platform.maxCells
      omega
    · have := h.1.2
      have := X.used
      show T.slotsUsed + R'.slots ≤ e.platform.maxSlots
      omega
  have hhears : (T.setFrames (.invoking m args :: below)).hears m below = true := by
    have h := X.hears
    unfold State.hears at h ⊢
    split at h
    · rename_i g fs
      have : (T.setFrames (.invoking m args :: .java g :: fs)).code? g.method = s.code? g.method := by
        rw [State.code?_eq, State.code?_eq]
        show (T.vm.method? g.method).bind _ = _
        rw [X.warmed.alike.method?]
      rw [this]
      exact h
    · rfl
    · rfl
    · show (T.vm.method? m).any _ = true
      rw [X.warmed.alike.method?]
      exact h
  obtain ⟨g₀, hg⟩ := Option.isSome_iff_exists.mp X.here.top
  obtain ⟨r, hr⟩ := State.topJava?_eq_some.mp hg
  obtain ⟨t, ht, -⟩ := State.frames_cons hr
  refine ⟨X.admits, X.cas, X.clock, hF, hroom, hhears, hm, X.code, X.here, X.tail, State.WarmedH.refl _, by rw [State.stackLimits_setFrames], by rw [State.stackBytes_setFrames], ?_⟩
  have hT : (T.setFrames (.invoking m args :: below)).setFrames T.frames = T := by rw [State.setFrames_setFrames, State.setFrames_self ht]
  have hT2 : T.setVm (T.setFrames (.invoking m args :: below)).vm = T := rfl
  rw [hT2]
  refine ⟨?_, Nat.le_refl _, Nat.le_refl _, ?_, ?_, ?_⟩
  · rw [hT]
  · show T.slotsUsed = T.slotsUsed + _
    rw [show (T.setFrames (.invoking m args :: below)).heap = T.heap from rfl, List.drop_eq_nil_of_le (Nat.le_of_eq Array.length_toList)]
    simp
  · rw [show (T.setFrames (.invoking m args :: below)).heap = T.heap from rfl, List.drop_eq_nil_of_le (Nat.le_of_eq Array.length_toList)]
    simp
  · intro a ce hc
    exact ⟨ce, hc, rfl, rfl, fun _ _ => rfl⟩
