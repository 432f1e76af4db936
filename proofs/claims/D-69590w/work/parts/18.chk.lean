/-! SOUNDNESS 8: the checker of the code, and one step of the pure machine (printed) -/
/-- an instruction's length -/
def zil : Jvm.ClassFile.Instr → Nat
  | .bipush _ => 2 | .ldc _ => 2 | .iload _ => 2 | .lload _ => 2 | .aload _ => 2 | .istore _ => 2 | .lstore _ => 2 | .astore _ => 2 | .newarray _ => 2
  | .sipush _ => 3 | .ldc2_w _ => 3 | .iinc _ _ => 3 | .goto _ => 3 | .ifCond _ _ => 3 | .if_icmp _ _ => 3 | .if_acmp _ _ => 3 | .ifnull _ => 3 | .ifnonnull _ => 3 | .getfield _ => 3 | .putfield _ => 3 | .getstatic _ => 3 | .new _ => 3 | .anewarray _ => 3 | .invokevirtual _ => 3 | .invokespecial _ => 3 | .invokestatic _ => 3
  | _ => 1
def zswb : Jvm.ClassFile.Instr → Bool
  | .tableswitch _ _ _ _ => true
  | .lookupswitch _ _ => true
  | _ => false
def zmutb (t : Int) : Bool := decide (t ≠ zTS ∧ t ≠ zTK ∧ t ≠ 37 ∧ t ≠ 40)
/-- a field of a class: by its tag, number, tag of the field -/
def zfld (ct : Int) (f : Nat) (t : Int) (ck : (vw_C × (Nat → FieldType) × List Int) → Bool) : Bool := match zcq ct with
  | some q => decide (f < q.1.2.2) && decide (q.2.2.getD f 0 = t) && ck q
  | none => false
def zlkF (k idx : Nat) (ct : Int) (f : Nat) : Bool := zlf.any (fun e => decide (e = (zon k, idx, ct, f)))
def zlkN (k idx : Nat) (ct : Int) (f : Nat) : Bool := zlfN.any (fun e => decide (e.1 = zon k ∧ e.2.1 = idx ∧ e.2.2.1 = ct ∧ e.2.2.2.1 = f))
theorem zlkF_mem {k idx : Nat} {ct : Int} {f : Nat} (h : zlkF k idx ct f = true) : (zon k, idx, ct, f) ∈ zlf := by
  obtain ⟨e, h1, h2⟩ := List.any_eq_true.mp h
  rw [← of_decide_eq_true h2]; exact h1
theorem zlkN_mem {k idx : Nat} {ct : Int} {f : Nat} (h : zlkN k idx ct f = true) : ∃ host, (zon k, idx, ct, f, host) ∈ zlfN := by
  obtain ⟨⟨e1, e2, e3, e4, e5⟩, h1, h2⟩ := List.any_eq_true.mp h
  obtain ⟨q1, q2, q3, q4⟩ := of_decide_eq_true h2
  simp only at q1 q2 q3 q4
  subst q1; subst q2; subst q3; subst q4
  exact ⟨e5, h1⟩
def zarb (t n : Int) (ty : FieldType) (et : Int) : Bool := decide (zat t = some (ty, n, et))
/-- arrays of references -/
def zarr_ (t n et : Int) : Bool := match zat t with
  | some (.object C, n', et') => decide (n' = n ∧ et' = et) && (match zcq et with
    | some q => decide (q.1.1 = C)
    | none => false)
  | _ => false
theorem zarr_spec {t n et : Int} (h : zarr_ t n et = true) : ∃ (C : String) (q : vw_C × (Nat → FieldType) × List Int), zat t = some (.object C, n, et) ∧ zcq et = some q ∧ q.1.1 = C := by
  unfold zarr_ at h
  split at h
  · rename_i C n' et' hz
    simp only [Bool.and_eq_true, decide_eq_true_eq] at h
    obtain ⟨⟨h1, h2⟩, h3⟩ := h
    subst h1; subst h2
    split at h3
    · rename_i q hq
      exact ⟨C, q, hz, hq, of_decide_eq_true h3⟩
    · cases h3
  · cases h
def zpcs (ps : List (Int × Int)) (pc : Nat) : List Int := match ps with
  | [] => []
  | e :: r => e.1 :: ((pc : Int) + e.2) :: zpcs r pc
def zop (k pc : Nat) (i : Ins) : Bool := match i.1, i.2 with
  | .iconst n, [v] => decide ((Int32.ofInt n).toInt = v)
  | .bipush n, [v] => decide ((Int8.ofInt n).toInt32.toInt = v)
  | .sipush n, [v] => decide ((Int16.ofInt n).toInt32.toInt = v)
  | .ldc n, [v] => zld.any (fun e => decide (e.1 = zon k ∧ e.2.1 = n ∧ e.2.2.toInt = v))
  | .lconst n, [v] => decide ((Int64.ofNat (n : Nat)).toInt = v)
  | .ldc2_w n, [v] => zldd.any (fun e => decide (e.1 = zon k ∧ e.2.1 = n ∧ e.2.2.toInt = v))
  | .aconst_null, [_] => true
  | .iload n, [i] => decide ((n : Int) = i)
  | .iload_n q, [i] => decide (((q : Nat) : Int) = i)
  | .lload n, [i] => decide ((n : Int) = i)
  | .lload_n q, [i] => decide (((q : Nat) : Int) = i)
  | .aload n, [i] => decide ((n : Int) = i)
  | .aload_n q, [i] => decide (((q : Nat) : Int) = i)
  | .istore n, [i] => decide ((n : Int) = i ∧ n < zml k)
  | .istore_n q, [i] => decide (((q : Nat) : Int) = i ∧ (q : Nat) < zml k)
  | .astore n, [i] => decide ((n : Int) = i ∧ n < zml k)
  | .astore_n q, [i] => decide (((q : Nat) : Int) = i ∧ (q : Nat) < zml k)
  | .lstore n, [i] => decide ((n : Int) = i ∧ n + 1 < zml k)
  | .lstore_n q, [i] => decide (((q : Nat) : Int) = i ∧ (q : Nat) + 1 < zml k)
  | .iinc n d, [i, c] => decide ((n : Int) = i ∧ d = c ∧ (Int32.ofInt d).toInt = d)
  | .goto d, [t] => decide ((pc : Int) + d = t ∧ 0 ≤ t)
  | .ifCond _ d, [t] => decide ((pc : Int) + d = t ∧ 0 ≤ t)
  | .if_icmp _ d, [t] => decide ((pc : Int) + d = t ∧ 0 ≤ t)
  | .if_acmp _ d, [t] => decide ((pc : Int) + d = t ∧ 0 ≤ t)
  | .ifnull d, [t] => decide ((pc : Int) + d = t ∧ 0 ≤ t)
  | .ifnonnull d, [t] => decide ((pc : Int) + d = t ∧ 0 ≤ t)
  | .tableswitch d lo hi offs, t0 :: lo2 :: hi2 :: ts => decide ((pc : Int) + d = t0 ∧ 0 ≤ t0 ∧ lo = lo2 ∧ hi = hi2 ∧ offs.toList.map (fun o => (pc : Int) + o) = ts ∧ (∀ t ∈ ts, 0 ≤ t) ∧ (offs.size : Int) = hi - lo + 1)
  | .lookupswitch d ps, t0 :: ts => decide ((pc : Int) + d = t0 ∧ 0 ≤ t0 ∧ zpcs ps.toList pc = ts ∧ ∀ e ∈ ps.toList, 0 ≤ (pc : Int) + e.2) && (ps.toList.zip (ps.toList.drop 1)).all (fun (a, next) => a.1 < next.1)
  | .getfield idx, [ct, f, t] => (zlkF k idx ct f.toNat || zlkN k idx ct f.toNat) && decide (0 ≤ f) && zfld ct f.toNat t (fun _ => true)
  | .putfield idx, [ct, f, t, bo] => decide (0 ≤ f) && zmutb ct && zfld ct f.toNat t (fun q => decide (q.2.1 f.toNat = .boolean → bo = 1) && ((zlkF k idx ct f.toNat && (decide ((q.1.2.1 f.toNat).2.2.2 = false) || decide (zkd k = 2 ∧ q.1.1 = zcn (zon k)))) || (zlkN k idx ct f.toNat && decide ((q.1.2.1 f.toNat).2.2.2 = false))))
  | .getstatic idx, [t, a] => zlg.any (fun e => decide (e.1 = zon k ∧ e.2.1 = idx ∧ e.2.2.1 = t ∧ e.2.2.2.1 = a)) && decide (10 ≤ t ∧ a % 512 = t)
  | .iaload, [t, n] => zarb t n .int 0
  | .baload, [t, n, b] => zarb t n (if b = 1 then .boolean else .byte) 0
  | .saload, [t, n] => zarb t n .short 0
  | .laload, [t, n] => zarb t n .long 1
  | .aaload, [t, n, et] => zarr_ t n et
  | .iastore, [t, n] => zarb t n .int 0 && zmutb t
  | .bastore, [t, n, b] => zarb t n (if b = 1 then .boolean else .byte) 0 && zmutb t && decide (b = 0 ∨ b = 1)
  | .sastore, [t, n] => zarb t n .short 0 && zmutb t
  | .lastore, [t, n] => zarb t n .long 1 && zmutb t
  | .aastore, [t, n, et] => zarr_ t n et && zmutb t
  | .new idx, [ct, nf] => decide ((zon k, idx, ct) ∈ zlc) && zmutb ct && (match zcq ct with
    | some q => decide ((q.1.2.2 : Int) = nf)
    | none => false)
  | .newarray a, [t, n0] => zmutb t && (match zat t with
    | some (ty, n, et) => decide (n = n0 ∧ newarray.typeOf a = ty) && zaok ty et && decide (ty ∈ ([.int, .long, .byte, .short, .boolean] : List FieldType))
    | none => false)
  | .anewarray idx, [t, n0] => zmutb t && (match zat t with
    | some (.object C, n, et) => decide (n = n0) && zarr_ t n et && decide ((zon k, idx, et) ∈ zlc ∧ et ∈ ([38, 16, 21, 31] : List Int))
    | _ => false)
  | .arraylength, [t, n] => (match zat t with
    | some (_, n2, _) => decide (n2 = n)
    | none => false)
  | .invokespecial idx, [] => decide ((zon k, idx) ∈ zlo_ ∧ 1 ≤ zfr k ∧ 20 ≤ zlo k)
  | .invokevirtual idx, [ct] => zlr.any (fun e => decide (e.1 = zon k ∧ e.2.1 = idx ∧ e.2.2.1 = ct ∧ e.2.2.2 = ztn ct)) && decide ((ct = 37 ∨ ct = 40) ∧ 1 ≤ zfr k ∧ 20 ≤ zlo k)
  | .invokestatic idx, [t1, n1, t2, n2] => decide ((zon k, idx) ∈ zla ∧ 1 ≤ zfr k ∧ 30 ≤ zlo k ∧ t1 ≠ t2) && zarb t1 n1 .byte 0 && zarb t2 n2 .byte 0 && zmutb t2
  | _, _ => true
def zpcn (j : Option Int) (d : Nat) : Nat := match j with
  | none => d
  | some t => t.toNat
theorem zmutb_spec {t : Int} (h : zmutb t = true) : zmut t := by
  simp only [zmutb, decide_eq_true_eq] at h
  exact h
theorem zfld_spec {ct : Int} {f : Nat} {t : Int} {ck : (vw_C × (Nat → FieldType) × List Int) → Bool} (h : zfld ct f t ck = true) : ∃ q, zcq ct = some q ∧ f < q.1.2.2 ∧ q.2.2.getD f 0 = t ∧ ck q = true := by
  unfold zfld at h
  split at h
  · rename_i q hq
    simp only [Bool.and_eq_true, decide_eq_true_eq] at h
    exact ⟨q, hq, h.1.1, h.1.2, h.2⟩
  · cases h
theorem zac {ty : FieldType} (h : ty ∈ ([.int, .long, .byte, .short, .boolean] : List FieldType)) : Cond.arrayClass ty ∈ lw_all := by
  simp only [List.mem_cons, List.not_mem_nil, or_false] at h
  rcases h with h | h | h | h | h <;> subst h
  · exact lw_g (lw_at lw_m1 105 rfl) rfl
  · exact lw_g (lw_at lw_m1 106 rfl) rfl
  · exact lw_g (lw_at lw_m1 103 rfl) rfl
  · exact lw_g (lw_at lw_m1 104 rfl) rfl
  · exact lw_g (lw_at lw_m1 146 rfl) rfl
theorem zlookup (d t0 : Int) (pc : Nat) (h0 : (pc : Int) + d = t0) : ∀ (ps : List (Int × Int)) (x : Int), zlook t0 (zpcs ps pc) x = (pc : Int) + Op.lookupswitch.offset ps d x
  | [], x => by simp [zpcs, zlook, Op.lookupswitch.offset, h0]
  | (a, b) :: r, x => by
    have ih := zlookup d t0 pc h0 r x
    unfold zpcs zlook
    rw [Op.lookupswitch.offset_cons]
    by_cases hx : x = a
    · rw [if_pos hx, if_pos hx.symm]
    · rw [if_neg hx, if_neg (fun q => hx q.symm), ih]
theorem zoff_mem (d : Int) (pc : Nat) (h0 : 0 ≤ (pc : Int) + d) : ∀ (ps : List (Int × Int)) (x : Int), (∀ e ∈ ps, 0 ≤ (pc : Int) + e.2) → 0 ≤ (pc : Int) + Op.lookupswitch.offset ps d x
  | [], x, _ => by simpa [Op.lookupswitch.offset] using h0
  | (a, b) :: r, x, h => by
    have ih := zoff_mem d pc h0 r x (fun e' he => h e' (List.mem_cons_of_mem _ he))
    rw [Op.lookupswitch.offset_cons]
    split
    · exact h (a, b) List.mem_cons_self
    · exact ih
section Z18
variable {p : Program} {l : Launch} {e : Env} {R : Room} {s : State} {m : MethodId} {args : Array Value} {below : List Frame} {meth : Method} {c : Code} {Q : State → Prop} {G : ZG} {M0 : ZM} {b0 b1 : Int} {k pc : Nat} {ls st : List AV} {S : Sto}
theorem zc_lsw {a d : Int} {ps : Array (Int × Int)} {len : Nat} {t0 : Int} (X : zCX p s m args meth c G k) (hdg : decode (zb k) pc = .ok (.lookupswitch d ps, len)) (ht0 : (pc : Int) + d = t0) (h00 : 0 ≤ t0) (hpos : ∀ e ∈ ps.toList, 0 ≤ (pc : Int) + e.2) (hsort : (ps.toList.zip (ps.toList.drop 1)).all (fun (a, next) => a.1 < next.1) = true) (hk : zCont p l e R s m args below meth c Q G M0 b0 b1 (zlook t0 (zpcs ps.toList pc) a).toNat ls st S) : zCont p l e R s m args below meth c Q G M0 b0 b1 pc ls ((0, a) :: st) S := by
  intro M H locs lj sj hl hs hH he hf hv h0 h1
  obtain ⟨x, s1, rfl, hx, hs1⟩ := zSt_cons hs
  obtain ⟨i, rfl, rfl⟩ := zV_int hx
  have hk := hk M H locs lj _ hl hs1 hH he hf hv h0 h1
  rw [zlookup d t0 pc ht0] at hk
  have := zoff_mem d pc (by omega) ps.toList i.toInt hpos
  exact lv_lookup (tgt := ((pc : Int) + Op.lookupswitch.offset ps.toList d i.toInt).toNat) X.1 X.2.1 hdg hsort rfl (by omega) hk
theorem zgetD {ls : List AV} {n : Nat} {t v : Int} (h : zget ls (n : Int) = (t, v)) (ht : t ≠ 9) : ls[n]? = some (t, v) := by
  have := zget_some (i := (n : Int)) (by omega) h ht
  simpa using this
theorem zadr_pos {t n0 n c : Int} (ht : 50 ≤ t) (hn : 0 ≤ n) (hc : 0 ≤ c) : 0 < zadr t n0 n c := by
  unfold zadr
  split <;> omega
set_option maxHeartbeats 4000000 in
theorem zstepC {n : Nat} {i1 : Jvm.ClassFile.Instr} {i2 : List Int} {ls' st' : List AV} {S' : Sto} {j : Option Int} (X : zCX p s m args meth c G k) (hs : zstep (i1, i2) ls st S = some (j, ls', st', S')) (hop : zop k pc (i1, i2) = true) (hn0 : i1 ≠ .nop) (hS4 : ∀ x a b c d, (i1, i2) ≠ (.getfield x, [a, b, c, d])) (hdg : decode (zb k) pc = .ok (i1, n)) (hnl : zswb i1 = true ∨ n = zil i1) (hlen : ls.length = zml k) (hR : R.frames = zfr k ∧ R.locals = zlo k) (hR1 : S' 0 0 - b0 ≤ R.cells) (hR2 : S' 0 1 - b1 ≤ R.slots) (hm0 : S 0 0 ≤ S' 0 0) (hm1 : S 0 1 ≤ S' 0 1) (hk : zCont p l e R s m args below meth c Q G M0 b0 b1 (zpcn j (pc + n)) ls' st' S') : zCont p l e R s m args below meth c Q G M0 b0 b1 pc ls st S := by
  unfold zstep at hs
  simp only at hs
  split at hs
  · have hn : n = _ := hnl.resolve_left (by simp [zswb])
    subst hn
    simp only [zop, decide_eq_true_eq] at hop
    simp only [zpush, Option.some.injEq, Prod.mk.injEq] at hs
    obtain ⟨rfl, rfl, rfl, rfl⟩ := hs
    exact zc_iconst X hdg hop hk
  · have hn : n = _ := hnl.resolve_left (by simp [zswb])
    subst hn
    simp only [zop, decide_eq_true_eq] at hop
    simp only [zpush, Option.some.injEq, Prod.mk.injEq] at hs
    obtain ⟨rfl, rfl, rfl, rfl⟩ := hs
    exact zc_bipush X hdg hop hk
  · have hn : n = _ := hnl.resolve_left (by simp [zswb])
    subst hn
    simp only [zop, decide_eq_true_eq] at hop
    simp only [zpush, Option.some.injEq, Prod.mk.injEq] at hs
    obtain ⟨rfl, rfl, rfl, rfl⟩ := hs
    exact zc_sipush X hdg hop hk
  · have hn : n = _ := hnl.resolve_left (by simp [zswb])
    subst hn
    simp only [zop, List.any_eq_true, decide_eq_true_eq] at hop
    obtain ⟨⟨q1, q2, q3⟩, hm, z1, z2, z3⟩ := hop
    simp only at z1 z2 z3
    subst z1; subst z2
    simp only [zpush, Option.some.injEq, Prod.mk.injEq] at hs
    obtain ⟨rfl, rfl, rfl, rfl⟩ := hs
    exact zc_ldc X hm hdg z3 hk
  · have hn : n = _ := hnl.resolve_left (by simp [zswb])
    subst hn
    simp only [zop, decide_eq_true_eq] at hop
    simp only [zpush, Option.some.injEq, Prod.mk.injEq] at hs
    obtain ⟨rfl, rfl, rfl, rfl⟩ := hs
    exact zc_lconst X hdg hop hk
  · have hn : n = _ := hnl.resolve_left (by simp [zswb])
    subst hn
    simp only [zop, List.any_eq_true, decide_eq_true_eq] at hop
    obtain ⟨⟨q1, q2, q3⟩, hm, z1, z2, z3⟩ := hop
    simp only at z1 z2 z3
    subst z1; subst z2
    simp only [zpush, Option.some.injEq, Prod.mk.injEq] at hs
    obtain ⟨rfl, rfl, rfl, rfl⟩ := hs
    exact zc_ldc2 X hm hdg z3 hk
  · have hn : n = _ := hnl.resolve_left (by simp [zswb])
    subst hn
    split at hs
    · simp only [zpush, Option.some.injEq, Prod.mk.injEq] at hs
      obtain ⟨rfl, rfl, rfl, rfl⟩ := hs
      exact zc_null X ‹_› hdg hk
    · cases hs
  · have hn : n = _ := hnl.resolve_left (by simp [zswb])
    subst hn
    simp only [zop, decide_eq_true_eq] at hop
    subst hop
    simp only [zload, zis, zref, decide_eq_true_eq] at hs
    split at hs
    · rename_i hcond
      simp only [Option.some.injEq, Prod.mk.injEq] at hs
      obtain ⟨rfl, rfl, rfl, rfl⟩ := hs
      cases hz : zget ls _ with
      | mk t v =>
      rw [hz] at hcond hk
      simp only at hcond
      subst hcond
      exact zc_iload X (zgetD hz (by decide)) hdg hk
    · cases hs
  · have hn : n = _ := hnl.resolve_left (by simp [zswb])
    subst hn
    simp only [zop, decide_eq_true_eq] at hop
    subst hop
    simp only [zload, zis, zref, decide_eq_true_eq] at hs
    split at hs
    · rename_i hcond
      simp only [Option.some.injEq, Prod.mk.injEq] at hs
      obtain ⟨rfl, rfl, rfl, rfl⟩ := hs
      cases hz : zget ls _ with
      | mk t v =>
      rw [hz] at hcond hk
      simp only at hcond
      subst hcond
      exact zc_iload_n X rfl (zgetD hz (by decide)) hdg hk
    · cases hs
  · have hn : n = _ := hnl.resolve_left (by simp [zswb])
    subst hn
    simp only [zop, decide_eq_true_eq] at hop
    subst hop
    simp only [zload, zis, zref, decide_eq_true_eq] at hs
    split at hs
    · rename_i hcond
      simp only [Option.some.injEq, Prod.mk.injEq] at hs
      obtain ⟨rfl, rfl, rfl, rfl⟩ := hs
      cases hz : zget ls _ with
      | mk t v =>
      rw [hz] at hcond hk
      simp only at hcond
      subst hcond
      exact zc_lload X (zgetD hz (by decide)) hdg hk
    · cases hs
  · have hn : n = _ := hnl.resolve_left (by simp [zswb])
    subst hn
    simp only [zop, decide_eq_true_eq] at hop
    subst hop
    simp only [zload, zis, zref, decide_eq_true_eq] at hs
    split at hs
    · rename_i hcond
      simp only [Option.some.injEq, Prod.mk.injEq] at hs
      obtain ⟨rfl, rfl, rfl, rfl⟩ := hs
      cases hz : zget ls _ with
      | mk t v =>
      rw [hz] at hcond hk
      simp only at hcond
      subst hcond
      exact zc_lload_n X rfl (zgetD hz (by decide)) hdg hk
    · cases hs
  · have hn : n = _ := hnl.resolve_left (by simp [zswb])
    subst hn
    simp only [zop, decide_eq_true_eq] at hop
    subst hop
    simp only [zload, zis, zref, decide_eq_true_eq] at hs
    split at hs
    · rename_i hcond
      simp only [Option.some.injEq, Prod.mk.injEq] at hs
      obtain ⟨rfl, rfl, rfl, rfl⟩ := hs
      cases hz : zget ls _ with
      | mk t v =>
      rw [hz] at hcond hk
      exact zc_aload X hcond (zgetD hz (by simp only at hcond; omega)) hdg hk
    · cases hs
  · have hn : n = _ := hnl.resolve_left (by simp [zswb])
    subst hn
    simp only [zop, decide_eq_true_eq] at hop
    subst hop
    simp only [zload, zis, zref, decide_eq_true_eq] at hs
    split at hs
    · rename_i hcond
      simp only [Option.some.injEq, Prod.mk.injEq] at hs
      obtain ⟨rfl, rfl, rfl, rfl⟩ := hs
      cases hz : zget ls _ with
      | mk t v =>
      rw [hz] at hcond hk
      exact zc_aload_n X hcond rfl (zgetD hz (by simp only at hcond; omega)) hdg hk
    · cases hs
  · have hn : n = _ := hnl.resolve_left (by simp [zswb])
    subst hn
    simp only [zop, decide_eq_true_eq] at hop
    obtain ⟨hop, hml⟩ := hop
    subst hop
    cases st with
    | nil => simp [zstore] at hs
    | cons v r =>
      simp only [zstore, zis, zref, decide_eq_true_eq] at hs
      split at hs
      · rename_i hcond
        simp only [Option.some.injEq, Prod.mk.injEq] at hs
        obtain ⟨rfl, rfl, rfl, rfl⟩ := hs
        obtain ⟨t, v⟩ := v
        simp only at hcond
        subst hcond
        exact zc_istore X (by omega) hdg hk
      · cases hs
  · have hn : n = _ := hnl.resolve_left (by simp [zswb])
    subst hn
    simp only [zop, decide_eq_true_eq] at hop
    obtain ⟨hop, hml⟩ := hop
    subst hop
    cases st with
    | nil => simp [zstore] at hs
    | cons v r =>
      simp only [zstore, zis, zref, decide_eq_true_eq] at hs
      split at hs
      · rename_i hcond
        simp only [Option.some.injEq, Prod.mk.injEq] at hs
        obtain ⟨rfl, rfl, rfl, rfl⟩ := hs
        obtain ⟨t, v⟩ := v
        simp only at hcond
        subst hcond
        exact zc_istore_n X rfl (by omega) hdg hk
      · cases hs
  · have hn : n = _ := hnl.resolve_left (by simp [zswb])
    subst hn
    simp only [zop, decide_eq_true_eq] at hop
    obtain ⟨hop, hml⟩ := hop
    subst hop
    cases st with
    | nil => simp [zstore] at hs
    | cons v r =>
      simp only [zstore, zis, zref, decide_eq_true_eq] at hs
      split at hs
      · rename_i hcond
        simp only [Option.some.injEq, Prod.mk.injEq] at hs
        obtain ⟨rfl, rfl, rfl, rfl⟩ := hs
        obtain ⟨t, v⟩ := v
        exact zc_astore X hcond (by omega) hdg hk
      · cases hs
  · have hn : n = _ := hnl.resolve_left (by simp [zswb])
    subst hn
    simp only [zop, decide_eq_true_eq] at hop
    obtain ⟨hop, hml⟩ := hop
    subst hop
    cases st with
    | nil => simp [zstore] at hs
    | cons v r =>
      simp only [zstore, zis, zref, decide_eq_true_eq] at hs
      split at hs
      · rename_i hcond
        simp only [Option.some.injEq, Prod.mk.injEq] at hs
        obtain ⟨rfl, rfl, rfl, rfl⟩ := hs
        obtain ⟨t, v⟩ := v
        exact zc_astore_n X rfl hcond (by omega) hdg hk
      · cases hs
  · have hn : n = _ := hnl.resolve_left (by simp [zswb])
    subst hn
    simp only [zop, decide_eq_true_eq] at hop
    obtain ⟨hop, hml⟩ := hop
    subst hop
    cases st with
    | nil => simp [zstore] at hs
    | cons v r =>
      simp only [zstore, zis, zref, decide_eq_true_eq] at hs
      split at hs
      · rename_i hcond
        simp only [Option.some.injEq, Prod.mk.injEq] at hs
        obtain ⟨rfl, rfl, rfl, rfl⟩ := hs
        obtain ⟨t, v⟩ := v
        simp only at hcond
        subst hcond
        exact zc_lstore X (by omega) hdg hk
      · cases hs
  · have hn : n = _ := hnl.resolve_left (by simp [zswb])
    subst hn
    simp only [zop, decide_eq_true_eq] at hop
    obtain ⟨hop, hml⟩ := hop
    subst hop
    cases st with
    | nil => simp [zstore] at hs
    | cons v r =>
      simp only [zstore, zis, zref, decide_eq_true_eq] at hs
      split at hs
      · rename_i hcond
        simp only [Option.some.injEq, Prod.mk.injEq] at hs
        obtain ⟨rfl, rfl, rfl, rfl⟩ := hs
        obtain ⟨t, v⟩ := v
        simp only at hcond
        subst hcond
        exact zc_lstore_n X rfl (by omega) hdg hk
      · cases hs
  · have hn : n = _ := hnl.resolve_left (by simp [zswb])
    subst hn
    simp only [zop, decide_eq_true_eq] at hop
    obtain ⟨z1, z2, z3⟩ := hop
    subst z1; subst z2
    split at hs
    · rename_i hcond
      simp only [Option.some.injEq, Prod.mk.injEq] at hs
      obtain ⟨rfl, rfl, rfl, rfl⟩ := hs
      cases hz : zget ls _ with
      | mk t v =>
      rw [hz] at hcond hk
      simp only at hcond
      subst hcond
      exact zc_iinc X (zgetD hz (by decide)) z3 hdg hk
    · cases hs
  · have hn : n = _ := hnl.resolve_left (by simp [zswb])
    subst hn
    simp only [zbin, zT, zne0, and_true, decide_eq_true_eq] at hs
    split at hs
    · split at hs
      · rename_i hcond
        simp only [Option.some.injEq, Prod.mk.injEq] at hs
        obtain ⟨rfl, rfl, rfl, rfl⟩ := hs
        obtain ⟨rfl, rfl⟩ := hcond
        exact zc_iadd X hdg hk
      · cases hs
    · cases hs
  · have hn : n = _ := hnl.resolve_left (by simp [zswb])
    subst hn
    simp only [zbin, zT, zne0, and_true, decide_eq_true_eq] at hs
    split at hs
    · split at hs
      · rename_i hcond
        simp only [Option.some.injEq, Prod.mk.injEq] at hs
        obtain ⟨rfl, rfl, rfl, rfl⟩ := hs
        obtain ⟨rfl, rfl⟩ := hcond
        exact zc_isub X hdg hk
      · cases hs
    · cases hs
  · have hn : n = _ := hnl.resolve_left (by simp [zswb])
    subst hn
    simp only [zbin, zT, zne0, and_true, decide_eq_true_eq] at hs
    split at hs
    · split at hs
      · rename_i hcond
        simp only [Option.some.injEq, Prod.mk.injEq] at hs
        obtain ⟨rfl, rfl, rfl, rfl⟩ := hs
        obtain ⟨rfl, rfl⟩ := hcond
        exact zc_imul X hdg hk
      · cases hs
    · cases hs
  · have hn : n = _ := hnl.resolve_left (by simp [zswb])
    subst hn
    simp only [zbin, zT, zne0, and_true, decide_eq_true_eq] at hs
    split at hs
    · split at hs
      · rename_i hcond
        simp only [Option.some.injEq, Prod.mk.injEq] at hs
        obtain ⟨rfl, rfl, rfl, rfl⟩ := hs
        obtain ⟨rfl, rfl, hb⟩ := hcond
        exact zc_idiv X hb hdg hk
      · cases hs
    · cases hs
  · have hn : n = _ := hnl.resolve_left (by simp [zswb])
    subst hn
    simp only [zbin, zT, zne0, and_true, decide_eq_true_eq] at hs
    split at hs
    · split at hs
      · rename_i hcond
        simp only [Option.some.injEq, Prod.mk.injEq] at hs
        obtain ⟨rfl, rfl, rfl, rfl⟩ := hs
        obtain ⟨rfl, rfl, hb⟩ := hcond
        exact zc_irem X hb hdg hk
      · cases hs
    · cases hs
  · have hn : n = _ := hnl.resolve_left (by simp [zswb])
    subst hn
    simp only [zbin, zT, zne0, and_true, decide_eq_true_eq] at hs
    split at hs
    · split at hs
      · rename_i hcond
        simp only [Option.some.injEq, Prod.mk.injEq] at hs
        obtain ⟨rfl, rfl, rfl, rfl⟩ := hs
        obtain ⟨rfl, rfl⟩ := hcond
        exact zc_iand X hdg hk
      · cases hs
    · cases hs
  · have hn : n = _ := hnl.resolve_left (by simp [zswb])
    subst hn
    simp only [zbin, zT, zne0, and_true, decide_eq_true_eq] at hs
    split at hs
    · split at hs
      · rename_i hcond
        simp only [Option.some.injEq, Prod.mk.injEq] at hs
        obtain ⟨rfl, rfl, rfl, rfl⟩ := hs
        obtain ⟨rfl, rfl⟩ := hcond
        exact zc_ishl X hdg hk
      · cases hs
    · cases hs
  · have hn : n = _ := hnl.resolve_left (by simp [zswb])
    subst hn
    simp only [zbin, zT, zne0, and_true, decide_eq_true_eq] at hs
    split at hs
    · split at hs
      · rename_i hcond
        simp only [Option.some.injEq, Prod.mk.injEq] at hs
        obtain ⟨rfl, rfl, rfl, rfl⟩ := hs
        obtain ⟨rfl, rfl⟩ := hcond
        exact zc_ishr X hdg hk
      · cases hs
    · cases hs
  · have hn : n = _ := hnl.resolve_left (by simp [zswb])
    subst hn
    simp only [zbin, zT, zne0, and_true, decide_eq_true_eq] at hs
    split at hs
    · split at hs
      · rename_i hcond
        simp only [Option.some.injEq, Prod.mk.injEq] at hs
        obtain ⟨rfl, rfl, rfl, rfl⟩ := hs
        obtain ⟨rfl, rfl⟩ := hcond
        exact zc_iushr X hdg hk
      · cases hs
    · cases hs
  · have hn : n = _ := hnl.resolve_left (by simp [zswb])
    subst hn
    simp only [zbin, zT, zne0, and_true, decide_eq_true_eq] at hs
    split at hs
    · split at hs
      · rename_i hcond
        simp only [Option.some.injEq, Prod.mk.injEq] at hs
        obtain ⟨rfl, rfl, rfl, rfl⟩ := hs
        obtain ⟨rfl, rfl⟩ := hcond
        exact zc_ladd X hdg hk
      · cases hs
    · cases hs
  · have hn : n = _ := hnl.resolve_left (by simp [zswb])
    subst hn
    simp only [zbin, zT, zne0, and_true, decide_eq_true_eq] at hs
    split at hs
    · split at hs
      · rename_i hcond
        simp only [Option.some.injEq, Prod.mk.injEq] at hs
        obtain ⟨rfl, rfl, rfl, rfl⟩ := hs
        obtain ⟨rfl, rfl⟩ := hcond
        exact zc_lsub X hdg hk
      · cases hs
    · cases hs
  · have hn : n = _ := hnl.resolve_left (by simp [zswb])
    subst hn
    simp only [zbin, zT, zne0, and_true, decide_eq_true_eq] at hs
    split at hs
    · split at hs
      · rename_i hcond
        simp only [Option.some.injEq, Prod.mk.injEq] at hs
        obtain ⟨rfl, rfl, rfl, rfl⟩ := hs
        obtain ⟨rfl, rfl⟩ := hcond
        exact zc_lmul X hdg hk
      · cases hs
    · cases hs
  · have hn : n = _ := hnl.resolve_left (by simp [zswb])
    subst hn
    simp only [zbin, zT, zne0, and_true, decide_eq_true_eq] at hs
    split at hs
    · split at hs
      · rename_i hcond
        simp only [Option.some.injEq, Prod.mk.injEq] at hs
        obtain ⟨rfl, rfl, rfl, rfl⟩ := hs
        obtain ⟨rfl, rfl, hb⟩ := hcond
        exact zc_ldiv X hb hdg hk
      · cases hs
    · cases hs
  · have hn : n = _ := hnl.resolve_left (by simp [zswb])
    subst hn
    simp only [zbin, zT, zne0, and_true, decide_eq_true_eq] at hs
    split at hs
    · split at hs
      · rename_i hcond
        simp only [Option.some.injEq, Prod.mk.injEq] at hs
        obtain ⟨rfl, rfl, rfl, rfl⟩ := hs
        obtain ⟨rfl, rfl, hb⟩ := hcond
        exact zc_lrem X hb hdg hk
      · cases hs
    · cases hs
  · have hn : n = _ := hnl.resolve_left (by simp [zswb])
    subst hn
    simp only [zbin, zT, zne0, and_true, decide_eq_true_eq] at hs
    split at hs
    · split at hs
      · rename_i hcond
        simp only [Option.some.injEq, Prod.mk.injEq] at hs
        obtain ⟨rfl, rfl, rfl, rfl⟩ := hs
        obtain ⟨rfl, rfl⟩ := hcond
        exact zc_land X hdg hk
      · cases hs
    · cases hs
  · have hn : n = _ := hnl.resolve_left (by simp [zswb])
    subst hn
    simp only [zbin, zT, zne0, and_true, decide_eq_true_eq] at hs
    split at hs
    · split at hs
      · rename_i hcond
        simp only [Option.some.injEq, Prod.mk.injEq] at hs
        obtain ⟨rfl, rfl, rfl, rfl⟩ := hs
        obtain ⟨rfl, rfl⟩ := hcond
        exact zc_lor X hdg hk
      · cases hs
    · cases hs
  · have hn : n = _ := hnl.resolve_left (by simp [zswb])
    subst hn
    simp only [zbin, zT, zne0, and_true, decide_eq_true_eq] at hs
    split at hs
    · split at hs
      · rename_i hcond
        simp only [Option.some.injEq, Prod.mk.injEq] at hs
        obtain ⟨rfl, rfl, rfl, rfl⟩ := hs
        obtain ⟨rfl, rfl⟩ := hcond
        exact zc_lxor X hdg hk
      · cases hs
    · cases hs
  · have hn : n = _ := hnl.resolve_left (by simp [zswb])
    subst hn
    simp only [zbin, zT, zne0, and_true, decide_eq_true_eq] at hs
    split at hs
    · split at hs
      · rename_i hcond
        simp only [Option.some.injEq, Prod.mk.injEq] at hs
        obtain ⟨rfl, rfl, rfl, rfl⟩ := hs
        obtain ⟨rfl, rfl⟩ := hcond
        exact zc_lshl X hdg hk
      · cases hs
    · cases hs
  · have hn : n = _ := hnl.resolve_left (by simp [zswb])
    subst hn
    simp only [zbin, zT, zne0, and_true, decide_eq_true_eq] at hs
    split at hs
    · split at hs
      · rename_i hcond
        simp only [Option.some.injEq, Prod.mk.injEq] at hs
        obtain ⟨rfl, rfl, rfl, rfl⟩ := hs
        obtain ⟨rfl, rfl⟩ := hcond
        exact zc_lshr X hdg hk
      · cases hs
    · cases hs
  · have hn : n = _ := hnl.resolve_left (by simp [zswb])
    subst hn
    simp only [zbin, zT, zne0, and_true, decide_eq_true_eq] at hs
    split at hs
    · split at hs
      · rename_i hcond
        simp only [Option.some.injEq, Prod.mk.injEq] at hs
        obtain ⟨rfl, rfl, rfl, rfl⟩ := hs
        obtain ⟨rfl, rfl⟩ := hcond
        exact zc_lushr X hdg hk
      · cases hs
    · cases hs
  · have hn : n = _ := hnl.resolve_left (by simp [zswb])
    subst hn
    simp only [zbin, zT, zne0, and_true, decide_eq_true_eq] at hs
    split at hs
    · split at hs
      · rename_i hcond
        simp only [Option.some.injEq, Prod.mk.injEq] at hs
        obtain ⟨rfl, rfl, rfl, rfl⟩ := hs
        obtain ⟨rfl, rfl⟩ := hcond
        exact zc_lcmp X hdg hk
      · cases hs
    · cases hs
  · have hn : n = _ := hnl.resolve_left (by simp [zswb])
    subst hn
    simp only [zun] at hs
    split at hs
    · split at hs
      · rename_i hcond
        simp only [Option.some.injEq, Prod.mk.injEq] at hs
        obtain ⟨rfl, rfl, rfl, rfl⟩ := hs
        subst hcond
        exact zc_ineg X hdg hk
      · cases hs
    · cases hs
  · have hn : n = _ := hnl.resolve_left (by simp [zswb])
    subst hn
    simp only [zun] at hs
    split at hs
    · split at hs
      · rename_i hcond
        simp only [Option.some.injEq, Prod.mk.injEq] at hs
        obtain ⟨rfl, rfl, rfl, rfl⟩ := hs
        subst hcond
        exact zc_i2l X hdg hk
      · cases hs
    · cases hs
  · have hn : n = _ := hnl.resolve_left (by simp [zswb])
    subst hn
    simp only [zun] at hs
    split at hs
    · split at hs
      · rename_i hcond
        simp only [Option.some.injEq, Prod.mk.injEq] at hs
        obtain ⟨rfl, rfl, rfl, rfl⟩ := hs
        subst hcond
        exact zc_l2i X hdg hk
      · cases hs
    · cases hs
  · have hn : n = _ := hnl.resolve_left (by simp [zswb])
    subst hn
    simp only [zun] at hs
    split at hs
    · split at hs
      · rename_i hcond
        simp only [Option.some.injEq, Prod.mk.injEq] at hs
        obtain ⟨rfl, rfl, rfl, rfl⟩ := hs
        subst hcond
        exact zc_i2b X hdg hk
      · cases hs
    · cases hs
  · have hn : n = _ := hnl.resolve_left (by simp [zswb])
    subst hn
    simp only [zun] at hs
    split at hs
    · split at hs
      · rename_i hcond
        simp only [Option.some.injEq, Prod.mk.injEq] at hs
        obtain ⟨rfl, rfl, rfl, rfl⟩ := hs
        subst hcond
        exact zc_i2s X hdg hk
      · cases hs
    · cases hs
  · have hn : n = _ := hnl.resolve_left (by simp [zswb])
    subst hn
    simp only [zdup] at hs
    split at hs
    · split at hs
      · cases hs
      · rename_i hcond
        simp only [Option.some.injEq, Prod.mk.injEq] at hs
        obtain ⟨rfl, rfl, rfl, rfl⟩ := hs
        exact zc_dup X hcond hdg hk
    · cases hs
  · have hn : n = _ := hnl.resolve_left (by simp [zswb])
    subst hn
    simp only [zdup2] at hs
    split at hs
    · split at hs
      · cases hs
      · rename_i hcond
        simp only [Option.some.injEq, Prod.mk.injEq] at hs
        obtain ⟨rfl, rfl, rfl, rfl⟩ := hs
        exact zc_dup2 X hcond hdg hk
    · cases hs
  · have hn : n = _ := hnl.resolve_left (by simp [zswb])
    subst hn
    simp only [zop, decide_eq_true_eq] at hop
    simp only [Option.some.injEq, Prod.mk.injEq] at hs
    obtain ⟨rfl, rfl, rfl, rfl⟩ := hs
    exact zc_goto X hop.1 hop.2 hdg hk
  · exact absurd rfl hn0
  · exact absurd rfl hn0
  · have hn : n = _ := hnl.resolve_left (by simp [zswb])
    subst hn
    simp only [zop, decide_eq_true_eq] at hop
    simp only [zj1, decide_eq_true_eq] at hs
    split at hs
    · split at hs
      · rename_i hcond
        simp only [Option.some.injEq, Prod.mk.injEq] at hs
        obtain ⟨hj, rfl, rfl, rfl⟩ := hs
        subst hcond
        exact zc_if_eq X hop.1 hop.2 hdg (fun q => by rw [if_pos q] at hj; subst hj; exact hk) (fun q => by rw [if_neg q] at hj; subst hj; exact hk)
      · cases hs
    · cases hs
  · have hn : n = _ := hnl.resolve_left (by simp [zswb])
    subst hn
    simp only [zop, decide_eq_true_eq] at hop
    simp only [zj1, decide_eq_true_eq] at hs
    split at hs
    · split at hs
      · rename_i hcond
        simp only [Option.some.injEq, Prod.mk.injEq] at hs
        obtain ⟨hj, rfl, rfl, rfl⟩ := hs
        subst hcond
        exact zc_if_ne X hop.1 hop.2 hdg (fun q => by rw [if_pos q] at hj; subst hj; exact hk) (fun q => by rw [if_neg q] at hj; subst hj; exact hk)
      · cases hs
    · cases hs
  · have hn : n = _ := hnl.resolve_left (by simp [zswb])
    subst hn
    simp only [zop, decide_eq_true_eq] at hop
    simp only [zj1, decide_eq_true_eq] at hs
    split at hs
    · split at hs
      · rename_i hcond
        simp only [Option.some.injEq, Prod.mk.injEq] at hs
        obtain ⟨hj, rfl, rfl, rfl⟩ := hs
        subst hcond
        exact zc_if_lt X hop.1 hop.2 hdg (fun q => by rw [if_pos q] at hj; subst hj; exact hk) (fun q => by rw [if_neg q] at hj; subst hj; exact hk)
      · cases hs
    · cases hs
  · have hn : n = _ := hnl.resolve_left (by simp [zswb])
    subst hn
    simp only [zop, decide_eq_true_eq] at hop
    simp only [zj1, decide_eq_true_eq] at hs
    split at hs
    · split at hs
      · rename_i hcond
        simp only [Option.some.injEq, Prod.mk.injEq] at hs
        obtain ⟨hj, rfl, rfl, rfl⟩ := hs
        subst hcond
        exact zc_if_ge X hop.1 hop.2 hdg (fun q => by rw [if_pos q] at hj; subst hj; exact hk) (fun q => by rw [if_neg q] at hj; subst hj; exact hk)
      · cases hs
    · cases hs
  · have hn : n = _ := hnl.resolve_left (by simp [zswb])
    subst hn
    simp only [zop, decide_eq_true_eq] at hop
    simp only [zj1, decide_eq_true_eq] at hs
    split at hs
    · split at hs
      · rename_i hcond
        simp only [Option.some.injEq, Prod.mk.injEq] at hs
        obtain ⟨hj, rfl, rfl, rfl⟩ := hs
        subst hcond
        exact zc_if_gt X hop.1 hop.2 hdg (fun q => by rw [if_pos q] at hj; subst hj; exact hk) (fun q => by rw [if_neg q] at hj; subst hj; exact hk)
      · cases hs
    · cases hs
  · have hn : n = _ := hnl.resolve_left (by simp [zswb])
    subst hn
    simp only [zop, decide_eq_true_eq] at hop
    simp only [zj1, decide_eq_true_eq] at hs
    split at hs
    · split at hs
      · rename_i hcond
        simp only [Option.some.injEq, Prod.mk.injEq] at hs
        obtain ⟨hj, rfl, rfl, rfl⟩ := hs
        subst hcond
        exact zc_if_le X hop.1 hop.2 hdg (fun q => by rw [if_pos q] at hj; subst hj; exact hk) (fun q => by rw [if_neg q] at hj; subst hj; exact hk)
      · cases hs
    · cases hs
  · have hn : n = _ := hnl.resolve_left (by simp [zswb])
    subst hn
    simp only [zop, decide_eq_true_eq] at hop
    simp only [zj2, decide_eq_true_eq] at hs
    split at hs
    · split at hs
      · rename_i hcond
        simp only [Option.some.injEq, Prod.mk.injEq] at hs
        obtain ⟨hj, rfl, rfl, rfl⟩ := hs
        obtain ⟨h1, h2⟩ := hcond
        subst h1; subst h2
        exact zc_ic_eq X hop.1 hop.2 hdg (fun q => by rw [if_pos q] at hj; subst hj; exact hk) (fun q => by rw [if_neg q] at hj; subst hj; exact hk)
      · cases hs
    · cases hs
  · have hn : n = _ := hnl.resolve_left (by simp [zswb])
    subst hn
    simp only [zop, decide_eq_true_eq] at hop
    simp only [zj2, decide_eq_true_eq] at hs
    split at hs
    · split at hs
      · rename_i hcond
        simp only [Option.some.injEq, Prod.mk.injEq] at hs
        obtain ⟨hj, rfl, rfl, rfl⟩ := hs
        obtain ⟨h1, h2⟩ := hcond
        subst h1; subst h2
        exact zc_ic_ne X hop.1 hop.2 hdg (fun q => by rw [if_pos q] at hj; subst hj; exact hk) (fun q => by rw [if_neg q] at hj; subst hj; exact hk)
      · cases hs
    · cases hs
  · have hn : n = _ := hnl.resolve_left (by simp [zswb])
    subst hn
    simp only [zop, decide_eq_true_eq] at hop
    simp only [zj2, decide_eq_true_eq] at hs
    split at hs
    · split at hs
      · rename_i hcond
        simp only [Option.some.injEq, Prod.mk.injEq] at hs
        obtain ⟨hj, rfl, rfl, rfl⟩ := hs
        obtain ⟨h1, h2⟩ := hcond
        subst h1; subst h2
        exact zc_ic_lt X hop.1 hop.2 hdg (fun q => by rw [if_pos q] at hj; subst hj; exact hk) (fun q => by rw [if_neg q] at hj; subst hj; exact hk)
      · cases hs
    · cases hs
  · have hn : n = _ := hnl.resolve_left (by simp [zswb])
    subst hn
    simp only [zop, decide_eq_true_eq] at hop
    simp only [zj2, decide_eq_true_eq] at hs
    split at hs
    · split at hs
      · rename_i hcond
        simp only [Option.some.injEq, Prod.mk.injEq] at hs
        obtain ⟨hj, rfl, rfl, rfl⟩ := hs
        obtain ⟨h1, h2⟩ := hcond
        subst h1; subst h2
        exact zc_ic_ge X hop.1 hop.2 hdg (fun q => by rw [if_pos q] at hj; subst hj; exact hk) (fun q => by rw [if_neg q] at hj; subst hj; exact hk)
      · cases hs
    · cases hs
  · have hn : n = _ := hnl.resolve_left (by simp [zswb])
    subst hn
    simp only [zop, decide_eq_true_eq] at hop
    simp only [zj2, decide_eq_true_eq] at hs
    split at hs
    · split at hs
      · rename_i hcond
        simp only [Option.some.injEq, Prod.mk.injEq] at hs
        obtain ⟨hj, rfl, rfl, rfl⟩ := hs
        obtain ⟨h1, h2⟩ := hcond
        subst h1; subst h2
        exact zc_ic_gt X hop.1 hop.2 hdg (fun q => by rw [if_pos q] at hj; subst hj; exact hk) (fun q => by rw [if_neg q] at hj; subst hj; exact hk)
      · cases hs
    · cases hs
  · have hn : n = _ := hnl.resolve_left (by simp [zswb])
    subst hn
    simp only [zop, decide_eq_true_eq] at hop
    simp only [zj2, decide_eq_true_eq] at hs
    split at hs
    · split at hs
      · rename_i hcond
        simp only [Option.some.injEq, Prod.mk.injEq] at hs
        obtain ⟨hj, rfl, rfl, rfl⟩ := hs
        obtain ⟨h1, h2⟩ := hcond
        subst h1; subst h2
        exact zc_ic_le X hop.1 hop.2 hdg (fun q => by rw [if_pos q] at hj; subst hj; exact hk) (fun q => by rw [if_neg q] at hj; subst hj; exact hk)
      · cases hs
    · cases hs
  · have hn : n = _ := hnl.resolve_left (by simp [zswb])
    subst hn
    simp only [zop, decide_eq_true_eq] at hop
    simp only [zja1, decide_eq_true_eq] at hs
    split at hs
    · split at hs
      · rename_i hcond
        simp only [Option.some.injEq, Prod.mk.injEq] at hs
        obtain ⟨hj, rfl, rfl, rfl⟩ := hs
        exact zc_ifnull X hcond hop.1 hop.2 hdg (fun q => by rw [if_pos q] at hj; subst hj; exact hk) (fun q => by rw [if_neg q] at hj; subst hj; exact hk)
      · cases hs
    · cases hs
  · have hn : n = _ := hnl.resolve_left (by simp [zswb])
    subst hn
    simp only [zop, decide_eq_true_eq] at hop
    simp only [zja1, decide_eq_true_eq] at hs
    split at hs
    · split at hs
      · rename_i hcond
        simp only [Option.some.injEq, Prod.mk.injEq] at hs
        obtain ⟨hj, rfl, rfl, rfl⟩ := hs
        exact zc_ifnonnull X hcond hop.1 hop.2 hdg (fun q => by rw [if_pos q] at hj; subst hj; exact hk) (fun q => by rw [if_neg q] at hj; subst hj; exact hk)
      · cases hs
    · cases hs
  · have hn : n = _ := hnl.resolve_left (by simp [zswb])
    subst hn
    simp only [zop, decide_eq_true_eq] at hop
    simp only [zja2, decide_eq_true_eq] at hs
    split at hs
    · split at hs
      · rename_i hcond
        simp only [Option.some.injEq, Prod.mk.injEq] at hs
        obtain ⟨hj, rfl, rfl, rfl⟩ := hs
        obtain ⟨hu, hab⟩ := hcond
        subst hab
        exact zc_ac_eq X hu hop.1 hop.2 hdg (fun q => by rw [if_pos q] at hj; subst hj; exact hk) (fun q => by rw [if_neg q] at hj; subst hj; exact hk)
      · cases hs
    · cases hs
  · have hn : n = _ := hnl.resolve_left (by simp [zswb])
    subst hn
    simp only [zop, decide_eq_true_eq] at hop
    simp only [zja2, decide_eq_true_eq] at hs
    split at hs
    · split at hs
      · rename_i hcond
        simp only [Option.some.injEq, Prod.mk.injEq] at hs
        obtain ⟨hj, rfl, rfl, rfl⟩ := hs
        obtain ⟨hu, hab⟩ := hcond
        subst hab
        exact zc_ac_ne X hu hop.1 hop.2 hdg (fun q => by rw [if_pos q] at hj; subst hj; exact hk) (fun q => by rw [if_neg q] at hj; subst hj; exact hk)
      · cases hs
    · cases hs
  · simp only [zop, decide_eq_true_eq] at hop
    obtain ⟨z1, z2, z3, z4, z5, z6, z7⟩ := hop
    subst z3; subst z4
    simp only [zsw] at hs
    split at hs
    · split at hs
      · rename_i hcond
        simp only [Option.some.injEq, Prod.mk.injEq] at hs
        obtain ⟨rfl, rfl, rfl, rfl⟩ := hs
        subst hcond
        exact zc_tsw X hdg z1 z2 z5 z6 z7 hk
      · cases hs
    · cases hs
  · simp only [zop, Bool.and_eq_true, decide_eq_true_eq] at hop
    obtain ⟨⟨z1, z2, z3, z4⟩, z5⟩ := hop
    subst z3
    simp only [zsw] at hs
    split at hs
    · split at hs
      · rename_i hcond
        simp only [Option.some.injEq, Prod.mk.injEq] at hs
        obtain ⟨rfl, rfl, rfl, rfl⟩ := hs
        subst hcond
        exact zc_lsw X hdg z1 z2 z4 z5 hk
      · cases hs
    · cases hs
  · have hn : n = _ := hnl.resolve_left (by simp [zswb])
    subst hn
    simp only [zop, Bool.and_eq_true, Bool.or_eq_true, decide_eq_true_eq] at hop
    obtain ⟨⟨z1, z2⟩, z3⟩ := hop
    obtain ⟨q, hq, hf, ht, -⟩ := zfld_spec z3
    simp only [zgetf] at hs
    split at hs
    · split at hs
      · rename_i ct f t _x tc a r hcond
        simp only [Option.some.injEq, Prod.mk.injEq] at hs
        obtain ⟨rfl, rfl, rfl, rfl⟩ := hs
        obtain ⟨rfl, ha⟩ := hcond
        have e1 : ((f.toNat : Nat) : Int) = f := by omega
        rw [← e1] at hk
        rcases z1 with z1 | z1
        · exact zc_getf X (zlkF_mem z1) hq hf ht ha hdg hk
        · obtain ⟨host, hh⟩ := zlkN_mem z1
          exact zc_getfN X hh hq hf ht ha hdg hk
      · cases hs
    · cases hs
  · exact absurd rfl (hS4 _ _ _ _ _)
  · have hn : n = _ := hnl.resolve_left (by simp [zswb])
    subst hn
    simp only [zop, Bool.and_eq_true, Bool.or_eq_true, decide_eq_true_eq] at hop
    obtain ⟨⟨z1, z2⟩, z3⟩ := hop
    obtain ⟨q, hq, hf, ht, hck⟩ := zfld_spec z3
    simp only [Bool.and_eq_true, Bool.or_eq_true, decide_eq_true_eq] at hck
    obtain ⟨hbo, hlk⟩ := hck
    simp only [zputf] at hs
    split at hs
    · split at hs
      · rename_i ct f t bo _x tv v tc a r hcond
        simp only [Option.some.injEq, Prod.mk.injEq] at hs
        obtain ⟨rfl, rfl, rfl, rfl⟩ := hs
        obtain ⟨rfl, rfl, ha, hb⟩ := hcond
        have e1 : ((f.toNat : Nat) : Int) = f := by omega
        rw [← e1] at hk
        rcases hlk with ⟨w1, w2⟩ | ⟨w1, w2⟩
        · exact zc_put X (zlkF_mem w1) hq hf ht w2 hbo hb (zmutb_spec z2) ha hdg hk
        · obtain ⟨host, hh⟩ := zlkN_mem w1
          exact zc_putN X hh hq hf ht w2 hbo hb (zmutb_spec z2) ha hdg hk
      · cases hs
    · cases hs
  · have hn : n = _ := hnl.resolve_left (by simp [zswb])
    subst hn
    simp only [zop, Bool.and_eq_true, List.any_eq_true, decide_eq_true_eq] at hop
    obtain ⟨⟨⟨q1, q2, q3, q4, q5, q6, q7⟩, hm, z1, z2, z3, z4⟩, h10, hmod⟩ := hop
    simp only at z1 z2 z3 z4
    subst z1; subst z2; subst z3; subst z4
    simp only [zpush, Option.some.injEq, Prod.mk.injEq] at hs
    obtain ⟨rfl, rfl, rfl, rfl⟩ := hs
    exact zc_gets X hm h10 hmod hdg hk
  · have hn : n = _ := hnl.resolve_left (by simp [zswb])
    subst hn
    simp only [zop, zarb, decide_eq_true_eq] at hop
    simp only [zald] at hs
    split at hs
    · split at hs
      · rename_i hcond
        simp only [Option.some.injEq, Prod.mk.injEq] at hs
        obtain ⟨rfl, rfl, rfl, rfl⟩ := hs
        obtain ⟨rfl, rfl, ha, h3, h4⟩ := hcond
        exact zc_iaload X hop ha h3 h4 hdg hk
      · cases hs
    · cases hs
  · have hn : n = _ := hnl.resolve_left (by simp [zswb])
    subst hn
    simp only [zop, zarb, decide_eq_true_eq] at hop
    simp only [zald] at hs
    split at hs
    · split at hs
      · rename_i hcond
        simp only [Option.some.injEq, Prod.mk.injEq] at hs
        obtain ⟨rfl, rfl, rfl, rfl⟩ := hs
        obtain ⟨rfl, rfl, ha, h3, h4⟩ := hcond
        split at hop
        · exact zc_zaload X hop ha h3 h4 hdg hk
        · exact zc_baload X hop ha h3 h4 hdg hk
      · cases hs
    · cases hs
  · have hn : n = _ := hnl.resolve_left (by simp [zswb])
    subst hn
    simp only [zop, zarb, decide_eq_true_eq] at hop
    simp only [zald] at hs
    split at hs
    · split at hs
      · rename_i hcond
        simp only [Option.some.injEq, Prod.mk.injEq] at hs
        obtain ⟨rfl, rfl, rfl, rfl⟩ := hs
        obtain ⟨rfl, rfl, ha, h3, h4⟩ := hcond
        exact zc_saload X hop ha h3 h4 hdg hk
      · cases hs
    · cases hs
  · have hn : n = _ := hnl.resolve_left (by simp [zswb])
    subst hn
    simp only [zop, zarb, decide_eq_true_eq] at hop
    simp only [zald] at hs
    split at hs
    · split at hs
      · rename_i hcond
        simp only [Option.some.injEq, Prod.mk.injEq] at hs
        obtain ⟨rfl, rfl, rfl, rfl⟩ := hs
        obtain ⟨rfl, rfl, ha, h3, h4⟩ := hcond
        exact zc_laload X hop ha h3 h4 hdg hk
      · cases hs
    · cases hs
  · have hn : n = _ := hnl.resolve_left (by simp [zswb])
    subst hn
    simp only [zop] at hop
    obtain ⟨C, q, g1, g2, g3⟩ := zarr_spec hop
    simp only [zald] at hs
    split at hs
    · split at hs
      · rename_i hcond
        simp only [Option.some.injEq, Prod.mk.injEq] at hs
        obtain ⟨rfl, rfl, rfl, rfl⟩ := hs
        obtain ⟨rfl, rfl, ha, h3, h4⟩ := hcond
        exact zc_aaload X g1 ha h3 h4 hdg hk
      · cases hs
    · cases hs
  · have hn : n = _ := hnl.resolve_left (by simp [zswb])
    subst hn
    simp only [zop, zarb, Bool.and_eq_true, decide_eq_true_eq] at hop
    simp only [zast, zT, z01, zne0, decide_eq_true_eq] at hs
    split at hs
    · split at hs
      · rename_i hcond
        simp only [Option.some.injEq, Prod.mk.injEq] at hs
        obtain ⟨rfl, rfl, rfl, rfl⟩ := hs
        obtain ⟨rfl, rfl, rfl, ha, h3, h4, h5⟩ := hcond
        exact zc_iastore X hop.1 ha (zmutb_spec hop.2) h3 h4 hdg hk
      · cases hs
    · cases hs
  · have hn : n = _ := hnl.resolve_left (by simp [zswb])
    subst hn
    simp only [zop, zarb, Bool.and_eq_true, decide_eq_true_eq] at hop
    obtain ⟨⟨g1, g2⟩, -⟩ := hop
    rw [if_neg (by decide)] at g1
    simp only [zast, zT, z01, zne0, decide_eq_true_eq] at hs
    split at hs
    · split at hs
      · rename_i hcond
        simp only [Option.some.injEq, Prod.mk.injEq] at hs
        obtain ⟨rfl, rfl, rfl, rfl⟩ := hs
        obtain ⟨rfl, rfl, rfl, ha, h3, h4, h5⟩ := hcond
        exact zc_bastore X g1 ha (zmutb_spec g2) h3 h4 hdg hk
      · cases hs
    · cases hs
  · have hn : n = _ := hnl.resolve_left (by simp [zswb])
    subst hn
    simp only [zop, zarb, Bool.and_eq_true, decide_eq_true_eq] at hop
    obtain ⟨⟨g1, g2⟩, -⟩ := hop
    rw [if_pos trivial] at g1
    simp only [zast, zT, z01, zne0, decide_eq_true_eq] at hs
    split at hs
    · split at hs
      · rename_i hcond
        simp only [Option.some.injEq, Prod.mk.injEq] at hs
        obtain ⟨rfl, rfl, rfl, rfl⟩ := hs
        obtain ⟨rfl, rfl, rfl, ha, h3, h4, h5⟩ := hcond
        exact zc_zastore X g1 ha (zmutb_spec g2) h3 h4 h5 hdg hk
      · cases hs
    · cases hs
  · have hn : n = _ := hnl.resolve_left (by simp [zswb])
    subst hn
    simp only [zop, zarb, Bool.and_eq_true, decide_eq_true_eq] at hop
    simp only [zast, zT, z01, zne0, decide_eq_true_eq] at hs
    split at hs
    · split at hs
      · rename_i hcond
        simp only [Option.some.injEq, Prod.mk.injEq] at hs
        obtain ⟨rfl, rfl, rfl, rfl⟩ := hs
        obtain ⟨rfl, rfl, rfl, ha, h3, h4, h5⟩ := hcond
        exact zc_sastore X hop.1 ha (zmutb_spec hop.2) h3 h4 hdg hk
      · cases hs
    · cases hs
  · have hn : n = _ := hnl.resolve_left (by simp [zswb])
    subst hn
    simp only [zop, zarb, Bool.and_eq_true, decide_eq_true_eq] at hop
    simp only [zast, zT, z01, zne0, decide_eq_true_eq] at hs
    split at hs
    · split at hs
      · rename_i hcond
        simp only [Option.some.injEq, Prod.mk.injEq] at hs
        obtain ⟨rfl, rfl, rfl, rfl⟩ := hs
        obtain ⟨rfl, rfl, rfl, ha, h3, h4, h5⟩ := hcond
        exact zc_lastore X hop.1 ha (zmutb_spec hop.2) h3 h4 hdg hk
      · cases hs
    · cases hs
  · have hn : n = _ := hnl.resolve_left (by simp [zswb])
    subst hn
    simp only [zop, Bool.and_eq_true] at hop
    obtain ⟨C, q, g1, g2, g3⟩ := zarr_spec hop.1
    simp only [zast, zT, z01, zne0, decide_eq_true_eq] at hs
    split at hs
    · split at hs
      · rename_i hcond
        simp only [Option.some.injEq, Prod.mk.injEq] at hs
        obtain ⟨rfl, rfl, rfl, rfl⟩ := hs
        obtain ⟨rfl, rfl, rfl, ha, h3, h4, h5⟩ := hcond
        exact zc_aastore X g1 g2 g3 ha (zmutb_spec hop.2) h3 h4 h5 hdg hk
      · cases hs
    · cases hs
  · have hn : n = _ := hnl.resolve_left (by simp [zswb])
    subst hn
    simp only [zop, Bool.and_eq_true, decide_eq_true_eq] at hop
    obtain ⟨⟨z1, z2⟩, z3⟩ := hop
    split at z3
    · rename_i q hq
      have z3 := of_decide_eq_true z3
      simp only [znew] at hs
      split at hs
      · rename_i hcond
        simp only [Option.some.injEq, Prod.mk.injEq] at hs
        obtain ⟨rfl, rfl, rfl, rfl⟩ := hs
        have hct := zcq_tag hq
        rw [zcnt_0 _ (by omega), zz_ne _ (by omega)] at hR1
        rw [zcnt_1 _ (by omega), zz_ne _ (by omega)] at hR2
        exact zc_new X z1 hq z3 (zmutb_spec z2) hcond (by omega) (by omega) hdg hk
      · cases hs
    · cases z3
  · have hn : n = _ := hnl.resolve_left (by simp [zswb])
    subst hn
    simp only [zop, Bool.and_eq_true, decide_eq_true_eq] at hop
    obtain ⟨z2, z3⟩ := hop
    split at z3
    · rename_i ty n et hq
      simp only [Bool.and_eq_true, decide_eq_true_eq] at z3
      obtain ⟨⟨⟨w1, w2⟩, w3⟩, w4⟩ := z3
      subst w1
      simp only [znewa] at hs
      split at hs
      · split at hs
        · rename_i hcond
          simp only [Option.some.injEq, Prod.mk.injEq] at hs
          obtain ⟨rfl, rfl, rfl, rfl⟩ := hs
          obtain ⟨rfl, h1, h2, h3, h4, h5⟩ := hcond
          have htt := zat_tag hq
          have hpos := zadr_pos (n0 := n) htt h1 h5
          rw [zcnt_0 _ (by omega), zz_ne _ (by omega)] at hR1
          rw [zcnt_1 _ (by omega), zz_ne _ (by omega)] at hR2
          exact zc_newa X hq w3 (zmutb_spec z2) w2 (zac w4) h1 h2 h3 h4 h5 (by omega) (by omega) hdg hk
        · cases hs
      · cases hs
    · cases z3
  · have hn : n = _ := hnl.resolve_left (by simp [zswb])
    subst hn
    simp only [zop, Bool.and_eq_true, decide_eq_true_eq] at hop
    obtain ⟨z2, z3⟩ := hop
    split at z3
    · rename_i C n et hq
      simp only [Bool.and_eq_true, decide_eq_true_eq] at z3
      obtain ⟨⟨w1, w2⟩, w3, w4⟩ := z3
      subst w1
      obtain ⟨C2, q, g1, g2, g3⟩ := zarr_spec w2
      have hC : C2 = C := by have := g1.symm.trans hq; simp at this; exact this
      subst hC
      simp only [znewa] at hs
      split at hs
      · split at hs
        · rename_i hcond
          simp only [Option.some.injEq, Prod.mk.injEq] at hs
          obtain ⟨rfl, rfl, rfl, rfl⟩ := hs
          obtain ⟨rfl, h1, h2, h3, h4, h5⟩ := hcond
          have htt := zat_tag hq
          have hpos := zadr_pos (n0 := n) htt h1 h5
          rw [zcnt_0 _ (by omega), zz_ne _ (by omega)] at hR1
          rw [zcnt_1 _ (by omega), zz_ne _ (by omega)] at hR2
          exact zc_anewa X hq (by simp [zaok]; have := (zcq_tag g2).1; omega) (zmutb_spec z2) w3 g2 g3 w4 h1 h2 h3 h4 h5 (by omega) (by omega) hdg hk
        · cases hs
      · cases hs
    · cases z3
  · have hn : n = _ := hnl.resolve_left (by simp [zswb])
    subst hn
    simp only [zop] at hop
    split at hop
    · rename_i ty n2 et hq
      have hop := of_decide_eq_true hop
      subst hop
      simp only [zalen] at hs
      split at hs
      · split at hs
        · rename_i hcond
          simp only [Option.some.injEq, Prod.mk.injEq] at hs
          obtain ⟨rfl, rfl, rfl, rfl⟩ := hs
          obtain ⟨rfl, ha⟩ := hcond
          exact zc_alen X hq ha hdg hk
        · cases hs
      · cases hs
    · cases hop
  · have hn : n = _ := hnl.resolve_left (by simp [zswb])
    subst hn
    simp only [zop, decide_eq_true_eq] at hop
    obtain ⟨z1, z2, z3⟩ := hop
    simp only [zobj] at hs
    split at hs
    · split at hs
      · rename_i hcond
        simp only [Option.some.injEq, Prod.mk.injEq] at hs
        obtain ⟨rfl, rfl, rfl, rfl⟩ := hs
        exact zc_oinit X z1 hcond.1 hcond.2.1 hcond.2.2 hlen (by omega) (by omega) hdg hk
      · cases hs
    · cases hs
  · have hn : n = _ := hnl.resolve_left (by simp [zswb])
    subst hn
    simp only [zop, Bool.and_eq_true, List.any_eq_true, decide_eq_true_eq] at hop
    obtain ⟨⟨⟨q1, q2, q3, q4⟩, hm, z1, z2, z3, z4⟩, h1, h2, h3⟩ := hop
    simp only at z1 z2 z3 z4
    subst z1; subst z2; subst z3; subst z4
    simp only [zord] at hs
    split at hs
    · split at hs
      · rename_i hcond
        simp only [Option.some.injEq, Prod.mk.injEq] at hs
        obtain ⟨rfl, rfl, rfl, rfl⟩ := hs
        obtain ⟨rfl, ha, hl4⟩ := hcond
        exact zc_ord X hm (by rcases h1 with q | q <;> subst q <;> simp [ztn]) ha hl4 hlen (by omega) (by omega) (by omega) (by omega) hdg hk
      · cases hs
    · cases hs
  · have hn : n = _ := hnl.resolve_left (by simp [zswb])
    subst hn
    simp only [zop, zarb, Bool.and_eq_true, decide_eq_true_eq] at hop
    obtain ⟨⟨⟨⟨z1, z2, z3, z4⟩, z5⟩, z6⟩, z7⟩ := hop
    simp only [zacpy] at hs
    split at hs
    · split at hs
      · rename_i hcond
        simp only [Option.some.injEq, Prod.mk.injEq] at hs
        obtain ⟨rfl, rfl, rfl, rfl⟩ := hs
        obtain ⟨rfl, rfl, rfl, rfl, rfl, g1, g2, g3, g4, g5, g6, g7, g8⟩ := hcond
        exact zc_acpy X z1 z5 z6 z4 (zmutb_spec z7) g1 g2 g3 g4 g5 g6 g7 g8 hlen (by omega) (by omega) hdg hk
      · cases hs
    · cases hs
  · cases hs
end Z18
