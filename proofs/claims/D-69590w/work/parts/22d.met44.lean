/-! the contract of X.coinOf where it throws -/
def zth44 (pc : Nat) (u v : Int) : Bool := pc == 34 && u == 1 && v == 6
theorem zblk44 : zblk znoex zth44 44 := zblk_of (by decide +kernel)
theorem zret_8 {i : Ins} {st : List AV} (h : zret i st = some (8, 0)) : i.1 = .athrow := by
  unfold zret at h
  split at h
  · simp at h
  · split at h <;> simp at h
  · split at h <;> simp at h
  · rename_i u t v e1 e2
    split at h
    · rename_i hc
      simp at h
      omega
    · simp at h
  · assumption
  · cases h
def zQx (G : ZG) (M : ZM) (S' : Sto) (mc ms : Nat) : Array Value → State → Outcome → State → Prop := fun _ st o t => ∃ (M' : ZM) (ad : Addr) (L : List Loc) (ce : Cell), o = .threw ad ∧ zExt M M' ∧ zHR G M' S' t.heap ∧ st.WarmedH t.vm ∧ st.sameButNew (t.setVm st.vm) L mc ms ∧ (∀ x ∈ L, G.1 ≤ x.base) ∧ (∀ q : Nat, q < G.1 → t.heap[q]? = st.heap[q]?) ∧ st.heap.size ≤ t.heap.size ∧ t.heap[ad]? = some ce ∧ t.vm.findClass zIO = some ce.cls ∧ ce.vm = .none
theorem zM44x {l : Launch} {G : ZG} (hfl : l.stackTraces = false) {n : Nat} {as : List AV} {S S' : Sto} (h : zex Cs n 44 (Cs 44 0) (zloc (zml 44) as) [] S = some (S', (8, 0))) (hw : zw as ≤ zml 44) (M : ZM) :
    MetFree l (zy 44) (headSpec (ws_ (zy 44) (zb 44) (zml 44) (zrt 44)) (zRm 44 S S')) (fun a U => zPc G M S as a U ∧ zXw G U) (fun _ _ _ _ _ => True) (zQx G M S' (S' 0 0 - S 0 0).toNat (S' 0 1 - S 0 1).toNat) := by
  have ok := zREG_ok 44 (by decide +kernel)
  obtain ⟨w1, w2, w3, w4, w5, -, -⟩ := ok
  have hmono := zmono _ _ _ _ _ _ _ _ (zCsm 0) h
  refine MetFree.of_bodySF (code := zb 44) (maxLocals := zml 44) (ret := zrt 44) w5 ?_ ?_
  · intro args s m h hn
    obtain ⟨meth, c, h1, h2, h3, h4, h5, h6, -, -⟩ := Cond.code_spec hn (atoms_spec (ws := ws_ (zy 44) (zb 44) (zml 44) (zrt 44)) h _ List.mem_cons_self)
    exact ⟨meth, c, h1, h2, h3, h4, h5, h6⟩
  · intro p e s m args below meth c s₁ B hml hP _
    obtain ⟨⟨vs, rfl, hvs, hH, hK, hSv, hG⟩, hxw⟩ := hP
    have hts0 := atoms_spec (ws := ws_ (zy 44) (zb 44) (zml 44) (zrt 44)) B.pre
    have hts : ∀ w ∈ lw_all, w.before _ s = true := fun w h => hts0 w (List.mem_cons_of_mem _ h)
    have hown : s.vm.findClass (zcn (zon 44)) = some m.cls := by rw [← w4]; exact findClass_of_methodNamed B.named
    have hh0 : s₁.heap = s.heap := by rw [B.state]; rfl
    have XS := Stand.of_body B
    have hxt : c.exceptionTable.isEmpty = true := by
      obtain ⟨meth', c', h1, h2, -, -, -, -, h7, -⟩ := Cond.code_spec B.named (hts0 _ List.mem_cons_self)
      cases h1.symm.trans B.method
      cases h2.symm.trans XS.code
      exact h7
    have X : zCX p s m vs.toArray meth c G 44 := ⟨B.exec, B.bytes, hml, hown, hts, B.returns, B.notSynchronized, fun hk2 => by
        rcases w3 with ⟨z, -⟩ | ⟨z, -⟩ | ⟨-, z, -⟩
        · omega
        · omega
        · rw [← z]; exact (name_of_methodNamed B.named B.method).1, hK, hG⟩
    have := zsoundG l G znoex zth44 (zExt_no l G zth44) n p e (zRm 44 S S') s m vs.toArray below meth c (fun t => ∃ o, t.status = .running ∧ Ended t below o ∧ zQx G M S' (S' 0 0 - S 0 0).toNat (S' 0 1 - S 0 1).toNat vs.toArray s o t) M (S 0 0) (S 0 1) 44 S' (8, 0)
      ⟨zblk44, X, ⟨rfl, rfl⟩, by show _ ≤ (((S' 0 0 - S 0 0).toNat : Nat) : Int); omega, by show _ ≤ (((S' 0 1 - S 0 1).toNat : Nat) : Int); omega,
      fun _ pc ls S1 u v hth hS' hlen => by
        unfold zth44 at hth
        simp only [Bool.and_eq_true, beq_iff_eq] at hth
        obtain ⟨⟨rfl, rfl⟩, rfl⟩ := hth
        have e0 : S' 0 0 = S1 0 0 + 1 := by rw [hS', up_idx _ (by omega), up_same]
        have e1 : S' 0 1 = S1 0 1 + 6 := by rw [hS', up_same]
        refine zthr hfl X hxt hxw ⟨rfl, rfl⟩ hlen (by show _ ≤ (((S' 0 0 - S 0 0).toNat : Nat) : Int); omega) (by show _ ≤ (((S' 0 1 - S 0 1).toNat : Nat) : Int); omega) ?_
        intro t ad M' L g1 g2 g3 g4 g5 g6 g7 g8 g9 ⟨ce, g10, g11, g12⟩
        refine ⟨.threw ad, g1, g2, M', ad, L, ce, rfl, g6, ?_, g3, by rw [e0, e1]; exact g4, g5, g8, g9, g10, g11, g12⟩
        exact g7.cnt0 (fun a j ha => by rw [hS', up_ne _ ha, up_ne _ ha]),
      fun pc i ls st len hr hrop hd hl1 hlen => by
        have h8 := zret_8 hr
        obtain ⟨i1, i2⟩ := i
        simp only at h8
        subst h8
        exact absurd hrop (by simp [zrop])⟩ 0 (Cs 44 0) (zloc (zml 44) as) [] S h ((zblk44 0).resolve_left (fun q => by rw [q, zex_nil] at h; cases h)) (zCsm 0) (zloc_len hw)
    have hz := this M s.heap [] _ [] (zentry hvs hw) trivial hH (zExt.rf M) ⟨Nat.le_refl _, fun _ _ => rfl, fun _ h => by cases h⟩ hSv (Int.le_refl _) (Int.le_refl _)
    rw [← lg_entry_eq] at hz
    simp only [Int.sub_self, Int.toNat_zero] at hz
    obtain ⟨t, a1, o, b1, b2, b3⟩ := hz s₁ hh0 XS
    exact ⟨t, o, a1, b1, b2, b3⟩
