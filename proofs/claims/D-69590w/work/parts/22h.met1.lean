/-! the contract of the law's coinOf 2 -/
theorem zdec1 : decode (zb 1) 0 = .ok (.aload 4, 2) ∧ decode (zb 1) 2 = .ok (.iconst 0, 1) ∧ decode (zb 1) 3 = .ok (.aload_n 0, 1) ∧ decode (zb 1) 4 = .ok (.iload_n 1, 1) ∧ decode (zb 1) 5 = .ok (.iload_n 2, 1) ∧ decode (zb 1) 6 = .ok (.iload_n 3, 1) ∧ decode (zb 1) 7 = .ok (.invokevirtual 7, 3) ∧ decode (zb 1) 10 = .ok (.lastore, 1) ∧ decode (zb 1) 11 = .ok (.goto 7, 3) ∧ decode (zb 1) 16 = .ok (.iconst 1, 1) ∧ decode (zb 1) 17 = .ok (.ireturn, 1) ∧ decode (zb 1) 18 = .ok (.iconst 0, 1) ∧ decode (zb 1) 19 = .ok (.ireturn, 1) := by decide +kernel
theorem zret_r8 {i : Ins} {st : List AV} {r : AV} (h : zret i st = some r) (h8 : r.1 = 8) : r = (8, 0) := by
  unfold zret at h
  split at h
  · cases h; simp at h8
  · split at h
    · cases h; simp at h8
    · cases h
  · split at h
    · cases h; simp at h8
    · cases h
  · split at h
    · rename_i hc
      cases h
      simp only at h8
      omega
    · cases h
  · cases h; rfl
  · cases h
theorem zex_r8 {C : ZC} : ∀ (n k : Nat) (is : List Ins) (ls st : List AV) (S S' : Sto) (r : AV), zex C n k is ls st S = some (S', r) → r.1 = 8 → r = (8, 0) := by
  intro n
  induction n with
  | zero => intro k is ls st S S' r h; simp [zex] at h
  | succ n ih =>
    intro k is ls st S S' r h h8
    cases is with
    | nil => simp [zex] at h
    | cons i is =>
      rw [zex] at h
      split at h
      · split at h
        · split at h
          · cases h
          · split at h
            · split at h
              · cases h
              · exact ih _ _ _ _ _ _ _ h h8
            · exact ih _ _ _ _ _ _ _ h h8
        · cases h
      · split at h
        · rename_i r' hr
          cases h
          exact zret_r8 hr h8
        · split at h
          · cases h
          · exact ih _ _ _ _ _ _ _ h h8
          · exact ih _ _ _ _ _ _ _ h h8
theorem zend1 {n k : Nat} {v : Int} {ls : List AV} {S S' : Sto} {r : AV} (h : zex Cs n k [(.iconst v, [v]), (.ireturn, [0])] ls [] S = some (S', r)) : S' = S ∧ r = (0, v) := by
  obtain ⟨n1, h⟩ := zex_one h rfl rfl (show zstep _ _ _ _ = some (none, ls, [(0, v)], S) from rfl)
  cases n1 with
  | zero => simp [zex] at h
  | succ n1 =>
    rw [zex] at h
    simp [zcall, zret] at h
    exact ⟨h.1.symm, h.2.symm⟩
theorem zM1 {l : Launch} {G : ZG} (hfl : l.stackTraces = false) {n : Nat} {x a b d o t : Int} (ht : 10 ≤ t) {S S' : Sto} {r : AV} (h : zex Cs n 1 (Cs 1 0) (zloc 6 [(11, x), (0, a), (0, b), (0, d), (t, o)]) [] S = some (S', r)) (M : ZM) :
    Met l (zy 1) zwsW1 (zRm 1 S S') (fun v U => zPc G M S [(11, x), (0, a), (0, b), (0, d), (t, o)] v U ∧ zXw G U) (zQc G M S' r) (S' 0 0 - S 0 0).toNat (S' 0 1 - S 0 1).toNat (fun q => G.1 ≤ q) := by
  have hmono := zmono _ _ _ _ _ _ _ _ (zCsm 0) h
  obtain ⟨n', S1, r1, hz, hx, hcase⟩ := zrun1 ht h
  have hm1 := zmono _ _ _ _ _ _ _ _ (zCsm 0) hz
  obtain ⟨f1, f2, f3, f4, f5, f6⟩ := zmt1_facts
  obtain ⟨d0, d2, d3, d4, d5, d6, d7, d10, d11, d16, d17, d18, d19⟩ := zdec1
  have h44 : zml 44 = 5 := by decide +kernel
  refine va_MetW (cc := zb 1) (maxL := zml 1) (ret := zrt 1) (hh := [(0, 11, 14, 13)]) f5 rfl ?_
  intro p e s m args below meth c s₁ B hml hP
  obtain ⟨⟨vs, rfl, hvs, hH, hK, hSv, hG⟩, hxw⟩ := hP
  have hts0 := atoms_spec (ws := zwsW1) B.pre
  have hts : ∀ w ∈ lw_all, w.before _ s = true := fun w h => hts0 w (List.mem_cons_of_mem _ h)
  have hown : s.vm.findClass (zcn (zon 1)) = some m.cls := by rw [← f6]; exact findClass_of_methodNamed B.named
  have XS := Stand.of_body B
  have htab : c.exceptionTable.toList = [⟨0, 11, 14, 13⟩] := by
    obtain ⟨m9, meth', c', hn9, g1, g2, -, -, g5, -, -, -⟩ := Cond.codeWith_spec (hts0 _ List.mem_cons_self)
    cases hn9.symm.trans B.named
    cases g1.symm.trans B.method
    cases g2.symm.trans XS.code
    have := table_eq c.exceptionTable.toList
    rw [g5] at this
    exact this.symm
  have X : zCX p s m vs.toArray meth c G 1 := ⟨B.exec, B.bytes, hml, hown, hts, B.returns, B.notSynchronized, fun hk2 => by rw [f4] at hk2; omega, hK, hG⟩
  have hlen : ([(11, x), (0, a), (0, b), (0, d), (t, o), (9, 0)] : List AV).length = zml 1 := f1.symm
  have hR : (zRm 1 S S').frames = zfr 1 ∧ (zRm 1 S S').locals = zlo 1 := ⟨rfl, rfl⟩
  have hc0 : S' 0 0 - S 0 0 ≤ (zRm 1 S S').cells := by show _ ≤ (((S' 0 0 - S 0 0).toNat : Nat) : Int); omega
  have hc1 : S' 0 1 - S 0 1 ≤ (zRm 1 S S').slots := by show _ ≤ (((S' 0 1 - S 0 1).toNat : Nat) : Int); omega
  have key : zCont p l e (zRm 1 S S') s m vs.toArray below meth c (MQ below (zQc G M S' r) vs.toArray s (S' 0 0 - S 0 0).toNat (S' 0 1 - S 0 1).toNat (fun q => G.1 ≤ q)) G M (S 0 0) (S 0 1) 0 [(11, x), (0, a), (0, b), (0, d), (t, o), (9, 0)] [] S := by
    refine zstepC (n := 2) (i1 := .aload 4) (i2 := [4]) X (show zstep _ _ _ _ = some (none, [(11, x), (0, a), (0, b), (0, d), (t, o), (9, 0)], [(t, o)], S) by simp [zstep, zload, zget, zref, ht]) (by decide +kernel) (by simp) (by intros; simp) d0 (Or.inr rfl) hlen hR (by omega) (by omega) (Int.le_refl _) (Int.le_refl _) ?_
    refine zstepC (n := 1) (i1 := .iconst 0) (i2 := [0]) X (show zstep _ _ _ _ = some (none, _, [(0, 0), (t, o)], S) from rfl) (by decide +kernel) (by simp) (by intros; simp) d2 (Or.inr rfl) hlen hR (by omega) (by omega) (Int.le_refl _) (Int.le_refl _) ?_
    refine zstepC (n := 1) (i1 := .aload_n 0) (i2 := [0]) X (show zstep _ _ _ _ = some (none, _, [(11, x), (0, 0), (t, o)], S) from rfl) (by decide +kernel) (by simp) (by intros; simp) d3 (Or.inr rfl) hlen hR (by omega) (by omega) (Int.le_refl _) (Int.le_refl _) ?_
    refine zstepC (n := 1) (i1 := .iload_n 1) (i2 := [1]) X (show zstep _ _ _ _ = some (none, _, [(0, a), (11, x), (0, 0), (t, o)], S) from rfl) (by decide +kernel) (by simp) (by intros; simp) d4 (Or.inr rfl) hlen hR (by omega) (by omega) (Int.le_refl _) (Int.le_refl _) ?_
    refine zstepC (n := 1) (i1 := .iload_n 2) (i2 := [2]) X (show zstep _ _ _ _ = some (none, _, [(0, b), (0, a), (11, x), (0, 0), (t, o)], S) from rfl) (by decide +kernel) (by simp) (by intros; simp) d5 (Or.inr rfl) hlen hR (by omega) (by omega) (Int.le_refl _) (Int.le_refl _) ?_
    refine zstepC (n := 1) (i1 := .iload_n 3) (i2 := [3]) X (show zstep _ _ _ _ = some (none, _, [(0, d), (0, b), (0, a), (11, x), (0, 0), (t, o)], S) from rfl) (by decide +kernel) (by simp) (by intros; simp) d6 (Or.inr rfl) hlen hR (by omega) (by omega) (Int.le_refl _) (Int.le_refl _) ?_
    rcases hcase with ⟨h8, hrest⟩ | ⟨h8, hrest⟩
    · have hr8 := zex_r8 _ _ _ _ _ _ _ _ hz h8
      subst hr8
      have e16 : Cs 1 16 = [(.iconst 1, [1]), (.ireturn, [0])] := rfl
      rw [e16] at hrest
      obtain ⟨rfl, rfl⟩ := zend1 hrest
      refine zc_callX hfl X htab hxw hR hlen (fun v hv => by cases hv; rfl) (fun v hv => by cases hv; show t ≠ 1; omega) (by simp [zrcv, hx]) (by simp) (by simp only [List.drop_succ_cons, List.drop_zero, zw]; (repeat' split) <;> omega) (by rw [h44]; simp [zw]) (by rw [h44]; exact hz) (by omega) (by omega) ?_
      refine zstepC (n := 1) (i1 := .iconst 1) (i2 := [1]) X (show zstep _ _ _ _ = some (none, _, [(0, 1)], S') from rfl) (by decide +kernel) (by simp) (by intros; simp) d16 (Or.inr rfl) hlen hR (by omega) (by omega) (Int.le_refl _) (Int.le_refl _) ?_
      exact zc_ret (i := (.ireturn, [0])) X rfl (by simp) d17 (Or.inl ⟨rfl, f2⟩) rfl
    · have hM := (zsound l G n').1 44 [(11, x), (0, a), (0, b), (0, d)] S S1 r1 (by decide +kernel) (by rw [h44]; exact hz) h8 (by rw [h44]; simp [zw])
      cases n' with
      | zero => simp [zex] at hrest
      | succ n2 =>
        rw [zex] at hrest
        have ec : zcall ((.lastore, [218, 1]) : Ins) = none := rfl
        have er : zret ((.lastore, [218, 1]) : Ins) (zpsh r1 [(0, 0), (t, o)]) = none := rfl
        rw [ec, er] at hrest
        simp only at hrest
        cases hs : zstep (.lastore, [218, 1]) [(11, x), (0, a), (0, b), (0, d), (t, o), (9, 0)] (zpsh r1 [(0, 0), (t, o)]) S1 with
        | none => rw [hs] at hrest; cases hrest
        | some y =>
          obtain ⟨j, ls', st', S2⟩ := y
          rw [hs] at hrest
          have hsh : j = none ∧ ls' = [(11, x), (0, a), (0, b), (0, d), (t, o), (9, 0)] ∧ st' = [] := by
            have hs' := hs
            unfold zpsh at hs'
            split at hs'
            · simp [zstep, zast] at hs'
            · simp only [zstep, zast] at hs'
              split at hs'
              · simp at hs'
                exact ⟨hs'.1.symm, hs'.2.1.symm, hs'.2.2.1⟩
              · cases hs'
          obtain ⟨rfl, rfl, rfl⟩ := hsh
          simp only at hrest
          have hm2 := zstep_mo (W := zWk 1) hs (by decide +kernel)
          cases n2 with
          | zero => simp [zex] at hrest
          | succ n3 =>
            rw [zex] at hrest
            have ec2 : zcall ((.goto 7, [18]) : Ins) = none := rfl
            have er2 : zret ((.goto 7, [18]) : Ins) ([] : List AV) = none := rfl
            have es2 : zstep (.goto 7, [18]) [(11, x), (0, a), (0, b), (0, d), (t, o), (9, 0)] [] S2 = some (some 18, [(11, x), (0, a), (0, b), (0, d), (t, o), (9, 0)], [], S2) := rfl
            rw [ec2, er2, es2] at hrest
            simp only at hrest
            have e18 : Cs 1 18 = [(.iconst 0, [0]), (.ireturn, [0])] := rfl
            rw [e18] at hrest
            obtain ⟨rfl, rfl⟩ := zend1 hrest
            refine zc_callV (cid := 44) (na := 4) (ml := 5) (t := 11) X ⟨zREG_ok 44 (by decide +kernel), by decide +kernel⟩ (by decide +kernel) (Or.inl (by decide +kernel)) (by decide) (by decide +kernel) (by decide +kernel) (by simp [zrcv, hx]) hR (by simp) (by simp only [List.drop_succ_cons, List.drop_zero, zw]; (repeat' split) <;> omega) hM hm1.1 hm1.2 (by omega) (by omega) hlen d7 ?_
            refine zstepC (n := 1) (i1 := .lastore) (i2 := [218, 1]) X hs (by decide +kernel) (by simp) (by intros; simp) d10 (Or.inr rfl) hlen hR (by omega) (by omega) hm2.1 hm2.2 ?_
            refine zstepC (n := 3) (i1 := .goto 7) (i2 := [18]) X es2 (by decide +kernel) (by simp) (by intros; simp) d11 (Or.inr rfl) hlen hR (by omega) (by omega) (Int.le_refl _) (Int.le_refl _) ?_
            refine zstepC (n := 1) (i1 := .iconst 0) (i2 := [0]) X (show zstep _ _ _ _ = some (none, _, [(0, 0)], S') from rfl) (by decide +kernel) (by simp) (by intros; simp) d18 (Or.inr rfl) hlen hR (by omega) (by omega) (Int.le_refl _) (Int.le_refl _) ?_
            exact zc_ret (i := (.ireturn, [0])) X rfl (by simp) d19 (Or.inl ⟨rfl, f2⟩) rfl
  rw [lg_entry_eq]
  have hzL := zentry (n := zml 1) hvs (by rw [f1]; simp [zw, show t ≠ 1 by omega])
  rw [show zloc (zml 1) [(11, x), (0, a), (0, b), (0, d), (t, o)] = [(11, x), (0, a), (0, b), (0, d), (t, o), (9, 0)] by rw [f1]; simp [zloc, zloc0, show t ≠ 1 by omega]] at hzL
  have hz2 := key M s.heap [] _ [] hzL trivial hH (zExt.rf M) ⟨Nat.le_refl _, fun _ _ => rfl, fun _ h => by cases h⟩ hSv (Int.le_refl _) (Int.le_refl _)
  simp only [Int.sub_self, Int.toNat_zero] at hz2
  exact hz2
