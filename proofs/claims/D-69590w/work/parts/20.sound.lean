/-! SOUNDNESS 10: what the pure machine runs, the model's machine runs -/
theorem zfind_mem (t : Int) : ∀ l : List (Int × List Ins), zfind t l = [] ∨ (t, zfind t l) ∈ l
  | [] => Or.inl rfl
  | (u, b) :: r => by
    unfold zfind
    by_cases h : u = t
    · rw [if_pos h, h]
      exact Or.inr List.mem_cons_self
    · rw [if_neg h]
      rcases zfind_mem t r with q | q
      · exact Or.inl q
      · exact Or.inr (List.mem_cons_of_mem _ q)
theorem zmk_blk (k : Nat) (t : Int) : ∀ i ∈ Cd k t, zichk k i = true := by
  intro i hi
  unfold Cd at hi
  rcases zfind_mem t ((Kall.getD (k / 20) []).getD (k % 20) []) with q | q
  · rw [q] at hi; cases hi
  · have h := zmk_ok k
    unfold zmchk at h
    exact List.all_eq_true.mp (List.all_eq_true.mp h _ q) i hi
theorem zCsm {k : Nat} (t : Int) : ∀ i ∈ Cs k t, zichk k i = true := by
  intro i hi
  unfold Cs at hi
  obtain ⟨j, hj, rfl⟩ := List.mem_map.mp hi
  have h := zmk_blk k t j hj
  unfold zichk at h ⊢
  rw [Bool.and_eq_true] at h ⊢
  refine ⟨?_, ?_⟩
  · have h1 := h.1
    unfold zun4
    split
    · rfl
    · exact h1
  · have h2 := h.2
    unfold zcchk at h2 ⊢
    have e : zcall (zun4 j) = zcall j := by unfold zun4; split <;> rfl
    rw [e]
    exact h2
theorem zex_nil (C : ZC) (n k : Nat) (ls st : List AV) (S : Sto) : zex C n k [] ls st S = none := by
  cases n <;> simp [zex]
theorem zisr_step {i1 : Jvm.ClassFile.Instr} {i2 : List Int} {ls st : List AV} {S : Sto} (h : zisr i1 = true) : zstep (i1, i2) ls st S = none := by
  cases i1 <;> simp [zisr] at h <;> rfl
theorem zret_isr {i1 : Jvm.ClassFile.Instr} {i2 : List Int} {st : List AV} {r : AV} (h : zret (i1, i2) st = some r) : zisr i1 = true := by
  unfold zret at h
  simp only at h
  split at h <;> first | rfl | (cases h)
theorem zstep_len {i1 : Jvm.ClassFile.Instr} {i2 : List Int} {ls st ls' st' : List AV} {S S' : Sto} {j : Option Int} (hs : zstep (i1, i2) ls st S = some (j, ls', st', S')) : ls'.length = ls.length := by
  unfold zstep at hs
  simp only at hs
  split at hs <;>
    ((try simp only [zpush, zload, zstore, zbin, zun, zdup, zdup2, zj1, zj2, zja1, zja2, zsw, zgetf, zgetc, zputf, zald, zast, zalen, zobj, zord, znew, znewa, zacpy] at hs)
     (repeat' split at hs) <;> first
       | (cases hs; done)
       | (simp only [Option.some.injEq, Prod.mk.injEq] at hs; obtain ⟨-, rfl, -, -⟩ := hs; first | rfl | exact zst1_len _ _ _ | exact zst2_len _ _ _)
       | (cases hs))
def zlkd (k idx cid : Nat) : Prop := (zon k, idx, cid) ∈ zlm ∨ ∃ host, (zon k, idx, cid, host) ∈ zlmN
theorem zlkd_of {k idx cid : Nat} (h : (decide ((zon k, idx, cid) ∈ zlm) || zlmN.any (fun e => decide (e.1 = zon k ∧ e.2.1 = idx ∧ e.2.2.1 = cid))) = true) : zlkd k idx cid := by
  simp only [Bool.or_eq_true, decide_eq_true_eq] at h
  rcases h with h | h
  · exact Or.inl h
  · obtain ⟨⟨e1, e2, e3, e4⟩, h1, h2⟩ := List.any_eq_true.mp h
    obtain ⟨q1, q2, q3⟩ := of_decide_eq_true h2
    simp only at q1 q2 q3
    subst q1; subst q2; subst q3
    exact Or.inr ⟨e4, h1⟩
theorem zcop_spec {k : Nat} {i1 : Jvm.ClassFile.Instr} {i2 : List Int} {cid na ml : Nat} {rc hl : Option Int} (h : zcop k (i1, i2) = true) (hc : zcall (i1, i2) = some (cid, na, ml, rc, hl)) : hl = none ∧ zcok k cid na ml ∧ cid ∈ zREG ∧
    ((∃ idx t, i1 = .invokevirtual idx ∧ rc = some t ∧ zkd cid = 1 ∧ zlkd k idx cid ∧ 10 ≤ t ∧ ztn t = (zy cid).cls ∧ (zy cid).cls ≠ "") ∨ (∃ idx t, i1 = .invokespecial idx ∧ rc = some t ∧ zkd cid = 2 ∧ zlkd k idx cid ∧ 10 ≤ t) ∨ ∃ idx, i1 = .invokestatic idx ∧ rc = none ∧ zkd cid = 0 ∧ (zon k, idx, cid) ∈ zlm) := by
  unfold zcop at h
  simp only at h
  split at h
  · rename_i idx c n ml' t
    simp only [zcall, Option.some.injEq, Prod.mk.injEq] at hc
    obtain ⟨rfl, rfl, rfl, rfl, rfl⟩ := hc
    rw [Bool.and_eq_true] at h
    obtain ⟨h1, h2⟩ := h
    obtain ⟨g1, g2, g3, g4, g5, g6, g7, g8, g9⟩ := of_decide_eq_true h1
    exact ⟨rfl, ⟨zREG_ok _ g1, g2, g3, g4, g5⟩, g1, Or.inl ⟨idx, t, rfl, rfl, g6, zlkd_of h2, g7, g8, g9⟩⟩
  · rename_i idx c n ml' t
    simp only [zcall, Option.some.injEq, Prod.mk.injEq] at hc
    obtain ⟨rfl, rfl, rfl, rfl, rfl⟩ := hc
    rw [Bool.and_eq_true] at h
    obtain ⟨h1, h2⟩ := h
    obtain ⟨g1, g2, g3, g4, g5, g6, g7⟩ := of_decide_eq_true h1
    exact ⟨rfl, ⟨zREG_ok _ g1, g2, g3, g4, g5⟩, g1, Or.inr (Or.inl ⟨idx, t, rfl, rfl, g6, zlkd_of h2, g7⟩)⟩
  · rename_i idx c n ml'
    simp only [zcall, Option.some.injEq, Prod.mk.injEq] at hc
    obtain ⟨rfl, rfl, rfl, rfl, rfl⟩ := hc
    obtain ⟨g1, g2, g3, g4, g5, g6, g7⟩ := of_decide_eq_true h
    exact ⟨rfl, ⟨zREG_ok _ g1, g2, g3, g4, g5⟩, g1, Or.inr (Or.inr ⟨idx, rfl, rfl, g6, g7⟩)⟩
  · cases h
theorem zREG_1 : ∀ k ∈ zREG, k ≠ 1 ∧ k ≠ 411 := by decide +kernel
/-- the check with some instructions that are looked at apart -/
def zchkG (ex : Ins → Bool) (th : Nat → Int → Int → Bool) (k : Nat) : Nat → List Ins → Bool
  | _, [] => true
  | pc, i :: is => match i with
    | (.nop, [t]) => decide (t = (pc : Int))
    | (.nop, [c, n]) => decide (0 ≤ c ∧ 0 ≤ n ∧ is = [(.athrow, [])]) && th pc c n
    | (.nop, _) => false
    | i => match decode (zb k) pc with
      | .ok (j, n) => decide (j = i.1) && (zswb i.1 || decide (n = zil i.1)) && (zopA k pc i || ex i) && zf4 i && zchkG ex th k (pc + n) is
      | .error _ => false
def znoex (_ : Ins) : Bool := false
def znoth (_ : Nat) (_ _ : Int) : Bool := true
theorem zchk_G {k : Nat} : ∀ {is : List Ins} {pc : Nat}, zchk k pc is = true → zchkG znoex znoth k pc is = true
  | [], pc, _ => rfl
  | i :: is, pc, h => by
    unfold zchk at h
    unfold zchkG
    split at h
    · exact h
    · simp only [h, znoth, Bool.and_self]
    · cases h
    · split at h
      · rename_i j n hd
        rw [hd]
        simp only [Bool.and_eq_true] at h
        obtain ⟨⟨⟨⟨h1, h2⟩, h3⟩, h4⟩, h5⟩ := h
        simp only [Bool.and_eq_true, Bool.or_eq_true]
        exact ⟨⟨⟨⟨h1, by simpa using h2⟩, Or.inl h3⟩, h4⟩, zchk_G h5⟩
      · cases h
def zblk (ex : Ins → Bool) (th : Nat → Int → Int → Bool) (k : Nat) : Prop := ∀ t : Int, Cs k t = [] ∨ zchkG ex th k t.toNat (Cs k t) = true
def zkallG (ex : Ins → Bool) (th : Nat → Int → Int → Bool) (k : Nat) : Bool := ((Kall.getD (k / 20) []).getD (k % 20) []).all (fun e => zchkG ex th k e.1.toNat (e.2.map zun4))
theorem zblk_of {ex : Ins → Bool} {th : Nat → Int → Int → Bool} {k : Nat} (h : zkallG ex th k = true) : zblk ex th k := by
  intro t
  unfold zkallG at h
  unfold Cs Cd
  rcases zfind_mem t ((Kall.getD (k / 20) []).getD (k % 20) []) with q | q
  · left; rw [q]; rfl
  · right
    exact List.all_eq_true.mp h _ q
theorem zblk_reg {k : Nat} (hk : k ≠ 1) (hk2 : k ≠ 411) : zblk znoex znoth k := by
  intro t
  have h := zkall_ok k hk2
  unfold zkall at h
  simp only [Bool.or_eq_true, beq_iff_eq] at h
  rcases h with h | h
  · exact absurd h hk
  · unfold Cs Cd
    rcases zfind_mem t ((Kall.getD (k / 20) []).getD (k % 20) []) with q | q
    · left; rw [q]; rfl
    · right
      have := List.all_eq_true.mp h _ q
      simp only [Bool.and_eq_true, decide_eq_true_eq] at this
      exact zchk_G this.1
/-- what an instruction that is not a mark has been checked for -/
theorem zchk_cons {ex : Ins → Bool} {th : Nat → Int → Int → Bool} {k pc : Nat} {i1 : Jvm.ClassFile.Instr} {i2 : List Int} {is : List Ins} (h : zchkG ex th k pc ((i1, i2) :: is) = true) (hn : i1 ≠ .nop) : ∃ n, decode (zb k) pc = .ok (i1, n) ∧ (zswb i1 = true ∨ n = zil i1) ∧ (zopA k pc (i1, i2) = true ∨ ex (i1, i2) = true) ∧ zf4 (i1, i2) = true ∧ zchkG ex th k (pc + n) is = true := by
  unfold zchkG at h
  split at h
  · rename_i t e; exact absurd (congrArg Prod.fst e) hn
  · rename_i c n e; exact absurd (congrArg Prod.fst e) hn
  · rename_i x e; exact absurd (congrArg Prod.fst e) hn
  · split at h
    · rename_i j n hd
      simp only [Bool.and_eq_true, Bool.or_eq_true, decide_eq_true_eq] at h
      obtain ⟨⟨⟨⟨h1, h2⟩, h3⟩, h4⟩, h5⟩ := h
      subst h1
      exact ⟨n, hd, h2, h3, h4, h5⟩
    · cases h
theorem zchk_nop {ex : Ins → Bool} {th : Nat → Int → Int → Bool} {k pc : Nat} {i2 : List Int} {is : List Ins} (h : zchkG ex th k pc ((.nop, i2) :: is) = true) : i2 = [(pc : Int)] ∨ ∃ c n, i2 = [c, n] ∧ 0 ≤ c ∧ 0 ≤ n ∧ is = [(.athrow, [])] ∧ th pc c n = true := by
  unfold zchkG at h
  split at h
  · rename_i t e
    have h := of_decide_eq_true h
    left
    rw [Prod.mk.injEq] at e
    rw [e.2, h]
  · rename_i c n e
    rw [Bool.and_eq_true] at h
    obtain ⟨h1, h2, h3⟩ := of_decide_eq_true h.1
    rw [Prod.mk.injEq] at e
    exact Or.inr ⟨c, n, e.2, h1, h2, h3, h.2⟩
  · cases h
  · rename_i e1 e2 e3
    exact absurd rfl (e3 _)
theorem zthrow {n k : Nat} {c d : Int} {ls st : List AV} {S S' : Sto} {r : AV} (h : zex Cs (n + 1) k [(.nop, [c, d]), (.athrow, [])] ls st S = some (S', r)) : r = (8, 0) ∧ S' = up (up S 0 0 (S 0 0 + c)) 0 1 (S 0 1 + d) ∧ st = [] := by
  rw [zex] at h
  simp only [zcall, zret, zstep] at h
  cases n with
  | zero => simp [zex] at h
  | succ n =>
    rw [zex] at h
    cases st with
    | nil => simp [zcall, zret] at h; exact ⟨h.2.symm, h.1.symm, rfl⟩
    | cons v st => simp [zcall, zret, zstep] at h
theorem zmono : ∀ (n k : Nat) (is : List Ins) (ls st : List AV) (S S' : Sto) (r : AV), (∀ i ∈ is, zichk k i = true) → zex Cs n k is ls st S = some (S', r) → S 0 0 ≤ S' 0 0 ∧ S 0 1 ≤ S' 0 1 := by
  intro n
  induction n with
  | zero => intro k is ls st S S' r _ h; simp [zex] at h
  | succ n ih =>
    intro k is ls st S S' r hok h
    cases is with
    | nil => simp [zex] at h
    | cons i is =>
      have hi := hok i List.mem_cons_self
      have his : ∀ j ∈ is, zichk k j = true := fun j hj => hok j (List.mem_cons_of_mem _ hj)
      unfold zichk at hi
      rw [Bool.and_eq_true] at hi
      obtain ⟨hi1, -⟩ := hi
      obtain ⟨i1, i2⟩ := i
      rw [zex] at h
      cases hc : zcall (i1, i2) with
      | some q =>
        obtain ⟨cid, na, ml, rc, hl⟩ := q
        rw [hc] at h
        simp only at h
        split at h
        · cases hz : zex Cs n cid (Cs cid 0) (zloc ml (st.take na).reverse) [] S with
          | none => rw [hz] at h; cases h
          | some y =>
            obtain ⟨S1, r1⟩ := y
            rw [hz] at h
            simp only at h
            have g1 := ih _ _ _ _ _ _ _ (zCsm 0) hz
            split at h
            · split at h
              · cases h
              · have g2 := ih _ _ _ _ _ _ _ (zCsm _) h
                omega
            · have g2 := ih _ _ _ _ _ _ _ his h
              omega
        · cases h
      | none =>
        rw [hc] at h
        simp only at h
        cases hr : zret (i1, i2) st with
        | some r' =>
          rw [hr] at h
          simp only [Option.some.injEq, Prod.mk.injEq] at h
          obtain ⟨rfl, -⟩ := h
          exact ⟨Int.le_refl _, Int.le_refl _⟩
        | none =>
          rw [hr] at h
          simp only at h
          cases hs : zstep (i1, i2) ls st S with
          | none => rw [hs] at h; cases h
          | some y =>
            obtain ⟨j, ls', st', S1⟩ := y
            rw [hs] at h
            have g1 := zstep_mo hs hi1
            cases j with
            | none =>
              have g2 := ih _ _ _ _ _ _ _ his h
              omega
            | some t =>
              have g2 := ih _ _ _ _ _ _ _ (zCsm t) h
              omega
theorem zlgl {M : ZM} : ∀ {as : List AV} {vs : List Value}, zSt M as vs → (lg_sl vs).length = zw as
  | [], [], _ => rfl
  | v :: r, x :: s, h => by
    have ih := zlgl h.2
    have hc := zV_cat h.1
    unfold zw
    rw [← ih]
    simp only [lg_sl, List.flatMap_cons, List.length_append]
    rw [hc]
    by_cases hv : v.1 = 1
    · simp [hv]
    · simp [hv]
  | [], _ :: _, h => h.elim
  | _ :: _, [], h => h.elim
theorem zloc0_len : ∀ as : List AV, (zloc0 as).length = zw as
  | [] => rfl
  | (t, x) :: r => by
    have ih := zloc0_len r
    unfold zloc0 zw
    by_cases h : t = 1
    · simp [h, ih]; omega
    · simp [h, ih]; omega
theorem zloc_len {n : Nat} {as : List AV} (h : zw as ≤ n) : (zloc n as).length = n := by
  unfold zloc
  rw [List.length_append, List.length_replicate, zloc0_len]
  omega
theorem zloc0_args {M : ZM} : ∀ {as : List AV} {vs : List Value} (off i : Nat) (v : AV), zSt M as vs → (zloc0 as)[i]? = some v → v.1 ≠ 9 → ∃ x, (off + i, x) ∈ lv_args off vs ∧ zV M v x
  | [], [], off, i, v, _, h, _ => by simp [zloc0] at h
  | (t, y) :: r, x :: s, off, i, v, hs, h, h9 => by
    have hc := zV_cat hs.1
    unfold zloc0 at h
    unfold lv_args
    by_cases ht : t = 1
    · rw [if_pos ht] at h
      have hc2 : x.category = 2 := by rw [hc, if_pos ht]
      rw [if_pos hc2]
      match i, h with
      | 0, h =>
        simp at h
        exact ⟨x, by simp, by rw [← h]; exact hs.1⟩
      | 1, h => simp at h; rw [← h] at h9; exact absurd rfl h9
      | i + 2, h =>
        simp only [List.getElem?_cons_succ] at h
        obtain ⟨z, h1, h2⟩ := zloc0_args (off + 2) i v hs.2 h h9
        exact ⟨z, List.mem_cons_of_mem _ (by rw [show off + (i + 2) = off + 2 + i by omega]; exact h1), h2⟩
    · rw [if_neg ht] at h
      have hc2 : ¬ x.category = 2 := by rw [hc, if_neg ht]; omega
      rw [if_neg hc2]
      match i, h with
      | 0, h =>
        simp at h
        exact ⟨x, by simp, by rw [← h]; exact hs.1⟩
      | i + 1, h =>
        simp only [List.getElem?_cons_succ] at h
        obtain ⟨z, h1, h2⟩ := zloc0_args (off + 1) i v hs.2 h h9
        exact ⟨z, List.mem_cons_of_mem _ (by rw [show off + (i + 1) = off + 1 + i by omega]; exact h1), h2⟩
  | [], _ :: _, _, _, _, h, _, _ => h.elim
  | _ :: _, [], _, _, _, h, _, _ => h.elim
theorem zentry {M : ZM} {as : List AV} {vs : List Value} {n : Nat} (h : zSt M as vs) (hw : zw as ≤ n) : zL M (zloc n as) ((lg_sl vs ++ List.replicate (n - (lg_sl vs).length) Slot.unset).toArray) := by
  refine ⟨lv_args 0 vs, by rw [zloc_len hw]; exact lv_entry vs (by rw [zlgl h]; exact hw), fun i v hi h9 => ?_⟩
  unfold zloc at hi
  rw [List.getElem?_append] at hi
  split at hi
  · obtain ⟨x, h1, h2⟩ := zloc0_args 0 i v h hi h9
    exact ⟨x, by simpa using h1, h2⟩
  · rw [List.getElem?_replicate] at hi
    split at hi
    · cases hi; exact absurd rfl h9
    · cases hi
def zP1 (l : Launch) (G : ZG) (n : Nat) : Prop := ∀ (k : Nat) (as : List AV) (S S' : Sto) (r : AV), k ∈ zREG → zex Cs n k (Cs k 0) (zloc (zml k) as) [] S = some (S', r) → r.1 ≠ 8 → zw as ≤ zml k → zMt l G k as S S' r
/-- a run goes on from a place of the code to the method's end -/
def zRun (l : Launch) (G : ZG) (ex : Ins → Bool) (th : Nat → Int → Int → Bool) (n : Nat) (p : Program) (e : Env) (R : Room) (s : State) (m : MethodId) (args : Array Value) (below : List Frame) (meth : Method) (c : Code) (Q : State → Prop) (M0 : ZM) (b0 b1 : Int) (k : Nat) (S' : Sto) (r : AV) : Prop :=
  ∀ (pc : Nat) (is : List Ins) (ls st : List AV) (S : Sto), zex Cs n k is ls st S = some (S', r) → zchkG ex th k pc is = true → (∀ i ∈ is, zichk k i = true) → ls.length = zml k → zCont p l e R s m args below meth c Q G M0 b0 b1 pc ls st S
def zPre (l : Launch) (G : ZG) (ex : Ins → Bool) (th : Nat → Int → Int → Bool) (p : Program) (e : Env) (R : Room) (s : State) (m : MethodId) (args : Array Value) (below : List Frame) (meth : Method) (c : Code) (Q : State → Prop) (M0 : ZM) (b0 b1 : Int) (k : Nat) (S' : Sto) (r : AV) : Prop :=
  zblk ex th k ∧ zCX p s m args meth c G k ∧ (R.frames = zfr k ∧ R.locals = zlo k) ∧ S' 0 0 - b0 ≤ R.cells ∧ S' 0 1 - b1 ≤ R.slots ∧ (r.1 = 8 → ∀ (pc : Nat) (ls : List AV) (S : Sto) (u v : Int), th pc u v = true → S' = up (up S 0 0 (S 0 0 + u)) 0 1 (S 0 1 + v) → ls.length = zml k → zCont p l e R s m args below meth c Q G M0 b0 b1 pc ls [] S) ∧
  (∀ (pc : Nat) (i : Ins) (ls st : List AV) (len : Nat), zret i st = some r → zrop k i = true → decode (zb k) pc = .ok (i.1, len) → len = 1 → ls.length = zml k → zCont p l e R s m args below meth c Q G M0 b0 b1 pc ls st S')
/-- the instructions that are looked at apart -/
def zExt1 (l : Launch) (G : ZG) (ex : Ins → Bool) (th : Nat → Int → Int → Bool) (n : Nat) : Prop := ∀ (p : Program) (e : Env) (R : Room) (s : State) (m : MethodId) (args : Array Value) (below : List Frame) (meth : Method) (c : Code) (Q : State → Prop) (M0 : ZM) (b0 b1 : Int) (k : Nat) (S' : Sto) (r : AV),
  zPre l G ex th p e R s m args below meth c Q M0 b0 b1 k S' r → zRun l G ex th n p e R s m args below meth c Q M0 b0 b1 k S' r → ∀ (pc : Nat) (i : Ins) (is : List Ins) (ls st : List AV) (S : Sto) (len : Nat), ex i = true → zex Cs (n + 1) k (i :: is) ls st S = some (S', r) → decode (zb k) pc = .ok (i.1, len) → (zswb i.1 = true ∨ len = zil i.1) → zchkG ex th k (pc + len) is = true → (∀ j ∈ i :: is, zichk k j = true) → ls.length = zml k → zCont p l e R s m args below meth c Q G M0 b0 b1 pc ls st S
def zP2 (l : Launch) (G : ZG) (ex : Ins → Bool) (th : Nat → Int → Int → Bool) (n : Nat) : Prop := ∀ (p : Program) (e : Env) (R : Room) (s : State) (m : MethodId) (args : Array Value) (below : List Frame) (meth : Method) (c : Code) (Q : State → Prop) (M0 : ZM) (b0 b1 : Int) (k : Nat) (S' : Sto) (r : AV),
  zPre l G ex th p e R s m args below meth c Q M0 b0 b1 k S' r → zRun l G ex th n p e R s m args below meth c Q M0 b0 b1 k S' r
theorem zRun_step {l : Launch} {G : ZG} {ex : Ins → Bool} {th : Nat → Int → Int → Bool} {n : Nat} (ih1 : zP1 l G n) {p : Program} {e : Env} {R : Room} {s : State} {m : MethodId} {args : Array Value} {below : List Frame} {meth : Method} {c : Code} {Q : State → Prop} {M0 : ZM} {b0 b1 : Int} {k : Nat} {S' : Sto} {r : AV}
    (hpre : zPre l G ex th p e R s m args below meth c Q M0 b0 b1 k S' r) (hrun : zRun l G ex th n p e R s m args below meth c Q M0 b0 b1 k S' r)
    (hxx : ∀ (pc : Nat) (i : Ins) (is : List Ins) (ls st : List AV) (S : Sto) (len : Nat), ex i = true → zex Cs (n + 1) k (i :: is) ls st S = some (S', r) → decode (zb k) pc = .ok (i.1, len) → (zswb i.1 = true ∨ len = zil i.1) → zchkG ex th k (pc + len) is = true → (∀ j ∈ i :: is, zichk k j = true) → ls.length = zml k → zCont p l e R s m args below meth c Q G M0 b0 b1 pc ls st S) :
    zRun l G ex th (n + 1) p e R s m args below meth c Q M0 b0 b1 k S' r := by
  intro pc is ls st S h hchk hok hlen
  obtain ⟨hblk, X, hR, hR1, hR2, h8, hret⟩ := id hpre
  have jump : ∀ (t : Int) (ls st : List AV) (S1 : Sto), ls.length = zml k → zex Cs n k (Cs k t) ls st S1 = some (S', r) → zCont p l e R s m args below meth c Q G M0 b0 b1 t.toNat ls st S1 := by
    intro t ls st S1 hlen h
    rcases hblk t with q | q
    · rw [q, zex_nil] at h; cases h
    · exact hrun _ _ ls st S1 h q (zCsm t) hlen
  cases is with
  | nil => simp [zex] at h
  | cons i is =>
    obtain ⟨i1, i2⟩ := i
    by_cases hn : i1 = .nop
    · subst hn
      rcases zchk_nop hchk with rfl | ⟨c', d, rfl, h1, h2, rfl, hth⟩
      · rw [zex] at h
        simp only [zcall, zret, zstep] at h
        exact jump (pc : Int) ls st S hlen h
      · obtain ⟨rfl, hS', rfl⟩ := zthrow h
        exact h8 rfl pc ls S c' d hth hS' hlen
    · obtain ⟨len, hd, hl, hA, h4, hc2⟩ := zchk_cons hchk hn
      have his : ∀ j ∈ is, zichk k j = true := fun j hj => hok j (List.mem_cons_of_mem _ hj)
      rcases hA with hA | hA
      case inr => exact hxx pc (i1, i2) is ls st S len hA h hd hl hc2 hok hlen
      have hi := hok (i1, i2) List.mem_cons_self
      unfold zichk at hi
      rw [Bool.and_eq_true] at hi
      rw [zex] at h
      unfold zopA at hA
      cases hc : zcall (i1, i2) with
      | some q =>
        obtain ⟨cid, na, ml, rc, hl'⟩ := q
        rw [hc] at h hA
        simp only [Option.isSome_some, if_true] at h hA
        obtain ⟨rfl, hok2, hreg, hkind⟩ := zcop_spec hA hc
        split at h
        · rename_i hcond
          obtain ⟨hna, h4', hrc, hzw⟩ := hcond
          cases hz : zex Cs n cid (Cs cid 0) (zloc ml (st.take na).reverse) [] S with
          | none => rw [hz] at h; cases h
          | some y =>
            obtain ⟨S1, r1⟩ := y
            rw [hz] at h
            simp only at h
            split at h
            · cases h
            · rename_i h81
              have g2 := zmono _ _ _ _ _ _ _ _ his h
              have hml : zml cid = ml := hok2.2.2.1
              have g1 := zmono _ _ _ _ _ _ _ _ (zCsm 0) hz
              have hM := ih1 cid (st.take na).reverse S S1 r1 hreg (by rw [hml]; exact hz) h81 (by rw [hml]; exact hzw)
              have hk3 : len = 3 → zCont p l e R s m args below meth c Q G M0 b0 b1 (pc + 3) ls (zpsh r1 (st.drop na)) S1 := fun e3 => by
                subst e3
                exact hrun _ _ ls _ S1 h hc2 his hlen
              rcases hkind with ⟨idx, t, rfl, rfl, w1, w2, w3, w4, w5⟩ | ⟨idx, t, rfl, rfl, w1, w2, w3⟩ | ⟨idx, rfl, rfl, w1, w2⟩
              · have e3 : len = 3 := hl.resolve_left (by simp [zswb])
                subst e3
                exact zc_callV X hok2 w1 w2 w3 w4 w5 hrc hR hna h4' hM g1.1 g1.2 (by omega) (by omega) hlen hd (hk3 rfl)
              · have e3 : len = 3 := hl.resolve_left (by simp [zswb])
                subst e3
                exact zc_callI X hok2 w1 w2 w3 hrc hR hna h4' hM g1.1 g1.2 (by omega) (by omega) hlen hd (hk3 rfl)
              · have e3 : len = 3 := hl.resolve_left (by simp [zswb])
                subst e3
                exact zc_callS X hok2 w1 w2 hR hna h4' hM g1.1 g1.2 (by omega) (by omega) hlen hd (hk3 rfl)
        · cases h
      | none =>
        rw [hc] at h hA
        simp only [Option.isSome_none, Bool.false_eq_true, if_false] at h hA
        cases hr : zret (i1, i2) st with
        | some r' =>
          rw [hr] at h
          simp only [Option.some.injEq, Prod.mk.injEq] at h
          obtain ⟨rfl, rfl⟩ := h
          have hi := zret_isr hr
          rw [if_pos hi] at hA
          refine hret pc (i1, i2) ls st len hr hA hd ?_ hlen
          have h1 := hl.resolve_left (by cases i1 <;> simp [zisr] at hi <;> simp [zswb])
          rw [h1]
          cases i1 <;> simp [zisr] at hi <;> rfl
        | none =>
          rw [hr] at h
          simp only at h
          cases hs : zstep (i1, i2) ls st S with
          | none => rw [hs] at h; cases h
          | some y =>
            obtain ⟨j, ls', st', S1⟩ := y
            rw [hs] at h
            have hni : zisr i1 = false := by
              cases hz : zisr i1 with
              | false => rfl
              | true => rw [zisr_step hz] at hs; cases hs
            rw [hni] at hA
            simp only [Bool.false_eq_true, if_false] at hA
            have g1 := zstep_mo hs hi.1
            have hlen' : ls'.length = zml k := by rw [zstep_len hs]; exact hlen
            have hS4 : ∀ x a b c d, (i1, i2) ≠ ((.getfield x, [a, b, c, d]) : Ins) := by
              intro x a b c d q
              rw [q] at h4
              simp [zf4] at h4
            cases j with
            | none =>
              have g2 := zmono _ _ _ _ _ _ _ _ his h
              refine zstepC X hs hA hn hS4 hd hl hlen hR (by omega) (by omega) g1.1 g1.2 ?_
              exact hrun _ _ ls' st' S1 h hc2 his hlen'
            | some t =>
              have g2 := zmono _ _ _ _ _ _ _ _ (zCsm t) h
              refine zstepC X hs hA hn hS4 hd hl hlen hR (by omega) (by omega) g1.1 g1.2 ?_
              exact jump t ls' st' S1 hlen' h
theorem zP2_step {l : Launch} {G : ZG} {ex : Ins → Bool} {th : Nat → Int → Int → Bool} {n : Nat} (ih1 : zP1 l G n) (ihx : zExt1 l G ex th n) (ih2 : zP2 l G ex th n) : zP2 l G ex th (n + 1) :=
  fun p e R s m args below meth c Q M0 b0 b1 k S' r hpre => zRun_step ih1 hpre (ih2 p e R s m args below meth c Q M0 b0 b1 k S' r hpre) (ihx p e R s m args below meth c Q M0 b0 b1 k S' r hpre (ih2 p e R s m args below meth c Q M0 b0 b1 k S' r hpre))
theorem zP1_of {l : Launch} {G : ZG} {n : Nat} (h2 : zP2 l G znoex znoth n) : zP1 l G n := by
  intro k as S S' r hreg h h8 hw M
  have ok := zREG_ok k hreg
  have hk1 := zREG_1 k hreg
  obtain ⟨w1, w2, w3, w4, w5, -, -⟩ := ok
  have hb := zblk_reg hk1.1 hk1.2
  rcases hb 0 with q | q
  · rw [q, zex_nil] at h; cases h
  have hmono := zmono _ _ _ _ _ _ _ _ (zCsm 0) h
  refine va_MetF (cc := zb k) (maxL := zml k) (ret := zrt k) w5 rfl ?_
  intro p e s m args below meth c s₁ B hml hv
  obtain ⟨vs, rfl, hvs, hH, hK, hSv, hG⟩ := hv
  have hts0 := atoms_spec (ws := ws_ (zy k) (zb k) (zml k) (zrt k)) B.pre
  have hts : ∀ w ∈ lw_all, w.before _ s = true := fun w h => hts0 w (List.mem_cons_of_mem _ h)
  have hown : s.vm.findClass (zcn (zon k)) = some m.cls := by rw [← w4]; exact findClass_of_methodNamed B.named
  have X : zCX p s m vs.toArray meth c G k := ⟨B.exec, B.bytes, hml, hown, hts, B.returns, B.notSynchronized, fun hk2 => by
      rcases w3 with ⟨z, -⟩ | ⟨z, -⟩ | ⟨-, z, -⟩
      · omega
      · omega
      · rw [← z]; exact (name_of_methodNamed B.named B.method).1, hK, hG⟩
  rw [lg_entry_eq]
  have := h2 p e (zRm k S S') s m vs.toArray below meth c (MQ below (zQc G M S' r) vs.toArray s (S' 0 0 - S 0 0).toNat (S' 0 1 - S 0 1).toNat (fun q => G.1 ≤ q)) M (S 0 0) (S 0 1) k S' r
    ⟨hb, X, ⟨rfl, rfl⟩, by show _ ≤ (((S' 0 0 - S 0 0).toNat : Nat) : Int); omega, by show _ ≤ (((S' 0 1 - S 0 1).toNat : Nat) : Int); omega, fun q => absurd q h8,
    fun pc i ls st len hr hrop hd hl1 hlen => by
      refine zc_ret X hr h8 hd ?_ hl1
      obtain ⟨i1, i2⟩ := i
      unfold zrop at hrop
      simp only at hrop ⊢
      split at hrop
      · exact of_decide_eq_true hrop
      · exact of_decide_eq_true hrop
      · exact of_decide_eq_true hrop
      · split at hrop
        · rename_i C hC; exact ⟨C, hC⟩
        · cases hrop
      · cases hrop⟩ 0 (Cs k 0) (zloc (zml k) as) [] S h q (zCsm 0) (zloc_len hw)
  have hz := this M s.heap [] _ [] (zentry hvs hw) trivial hH (zExt.rf M) ⟨Nat.le_refl _, fun _ _ => rfl, fun _ h => by cases h⟩ hSv (Int.le_refl _) (Int.le_refl _)
  simp at hz
  exact hz
theorem zExt_no (l : Launch) (G : ZG) (th : Nat → Int → Int → Bool) (n : Nat) : zExt1 l G znoex th n := by
  intro p e R s m args below meth c Q M0 b0 b1 k S' r _ _ pc i is ls st S len h
  cases h
theorem zsound (l : Launch) (G : ZG) : ∀ n : Nat, zP1 l G n ∧ zP2 l G znoex znoth n := by
  intro n
  induction n with
  | zero =>
    refine ⟨?_, ?_⟩
    · intro k as S S' r _ h; simp [zex] at h
    · intro p e R s m args below meth c Q M0 b0 b1 k S' r _ pc is ls st S h; simp [zex] at h
  | succ n ih =>
    have h2 := zP2_step ih.1 (zExt_no l G _ n) ih.2
    exact ⟨zP1_of h2, h2⟩
/-- the same for runs of other checks -/
theorem zsoundG (l : Launch) (G : ZG) (ex : Ins → Bool) (th : Nat → Int → Int → Bool) (hx : ∀ n, zExt1 l G ex th n) : ∀ n : Nat, zP2 l G ex th n := by
  intro n
  induction n with
  | zero => intro p e R s m args below meth c Q M0 b0 b1 k S' r _ pc is ls st S h; simp [zex] at h
  | succ n ih => exact zP2_step (zsound l G n).1 (hx n) ih
theorem zRun_0 {l : Launch} {G : ZG} {ex : Ins → Bool} {th : Nat → Int → Int → Bool} {p : Program} {e : Env} {R : Room} {s : State} {m : MethodId} {args : Array Value} {below : List Frame} {meth : Method} {c : Code} {Q : State → Prop} {M0 : ZM} {b0 b1 : Int} {k : Nat} {S' : Sto} {r : AV} : zRun l G ex th 0 p e R s m args below meth c Q M0 b0 b1 k S' r := by
  intro pc is ls st S h; simp [zex] at h
