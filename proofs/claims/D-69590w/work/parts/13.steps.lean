/-! SOUNDNESS 3: one instruction: locals, operand stack, branches (printed) -/
/-- what has happened to the heap since the method's start -/
def zFm (G : ZG) (H0 H : Heap) (locs : List Loc) : Prop := H0.size ≤ H.size ∧ (∀ q : Nat, q < G.1 → H[q]? = H0[q]?) ∧ ∀ x ∈ locs, G.1 ≤ x.base
def zCont (p : Program) (l : Launch) (e : Env) (R : Room) (s : State) (m : MethodId) (args : Array Value) (below : List Frame) (meth : Method) (c : Code) (Q : State → Prop) (G : ZG) (M0 : ZM) (b0 b1 : Int) (pc : Nat) (ls st : List AV) (S : Sto) : Prop :=
  ∀ (M : ZM) (H : Heap) (locs : List Loc) (lj : Array Slot) (sj : List Value), zL M ls lj → zSt M st sj → zHR G M S H → zExt M0 M → zFm G s.heap H locs → zSv G M s H → b0 ≤ S 0 0 → b1 ≤ S 0 1 → W p l e R s m args below meth c H locs (S 0 0 - b0).toNat (S 0 1 - b1).toNat Q (F0 m pc lj sj)
/-- what is fixed in a method -/
def zCX (p : Program) (s : State) (m : MethodId) (args : Array Value) (meth : Method) (c : Code) (G : ZG) (k : Nat) : Prop := p.tables.exec = Jvm.exec ∧ c.code = zb k ∧ c.maxLocals = zml k ∧ s.vm.findClass (zcn (zon k)) = some m.cls ∧ (∀ w ∈ lw_all, w.before args s = true) ∧ meth.sig.returnType = zrt k ∧ meth.locks = false ∧ (zkd k = 2 → meth.name = "<init>") ∧ zKn G s ∧ G.1 ≤ s.heap.size
theorem w32_add (x y : Int32) : (x + y).toInt = w32 (x.toInt + y.toInt) := by rw [Int32.toInt_add]; rfl
theorem w32_sub (x y : Int32) : (x - y).toInt = w32 (x.toInt - y.toInt) := by rw [Int32.toInt_sub]; rfl
theorem w32_mul (x y : Int32) : (x * y).toInt = w32 (x.toInt * y.toInt) := by rw [Int32.toInt_mul]; rfl
theorem w32_neg (x : Int32) : (-x).toInt = w32 (-x.toInt) := by rw [Int32.toInt_neg]; rfl
theorem w64_add (x y : Int64) : (x + y).toInt = w64 (x.toInt + y.toInt) := by rw [Int64.toInt_add]; rfl
theorem w64_sub (x y : Int64) : (x - y).toInt = w64 (x.toInt - y.toInt) := by rw [Int64.toInt_sub]; rfl
theorem w64_mul (x y : Int64) : (x * y).toInt = w64 (x.toInt * y.toInt) := by rw [Int64.toInt_mul]; rfl
theorem w32_div (x y : Int32) : (x / y).toInt = zidiv x.toInt y.toInt := by unfold zidiv; rw [Int32.toInt_div]; rfl
theorem w64_div (x y : Int64) : (x / y).toInt = zldiv x.toInt y.toInt := by unfold zldiv; rw [Int64.toInt_div]; rfl
theorem w32_rng (x : Int32) : -2147483648 ≤ x.toInt ∧ x.toInt < 2147483648 := ⟨Int32.le_toInt x, Int32.toInt_lt x⟩
theorem w64_rng (x : Int64) : -9223372036854775808 ≤ x.toInt ∧ x.toInt < 9223372036854775808 := ⟨Int64.le_toInt x, Int64.toInt_lt x⟩
theorem w32_id {x : Int} (h1 : -2147483648 ≤ x) (h2 : x < 2147483648) : w32 x = x := Int.bmod_eq_of_le (by omega) (by omega)
theorem w64_id {x : Int} (h1 : -9223372036854775808 ≤ x) (h2 : x < 9223372036854775808) : w64 x = x := Int.bmod_eq_of_le (by omega) (by omega)
theorem w16_id {x : Int} (h1 : -32768 ≤ x) (h2 : x < 32768) : w16 x = x := Int.bmod_eq_of_le (by omega) (by omega)
theorem w8_id {x : Int} (h1 : -128 ≤ x) (h2 : x < 128) : w8 x = x := Int.bmod_eq_of_le (by omega) (by omega)
theorem ztm_le (a b : Int) (hb : b ≠ 0) : -(b.natAbs : Int) < Int.tmod a b ∧ Int.tmod a b < (b.natAbs : Int) := by
  have h : (Int.tmod a b).natAbs < b.natAbs := by
    rw [Int.natAbs_tmod]
    exact Nat.mod_lt _ (by omega)
  omega
theorem ebm (x q y : Int) (n : Nat) : (x - Int.bmod q n * y).bmod n = (x - q * y).bmod n := by
  rw [← Int.sub_bmod_bmod (y := Int.bmod q n * y), Int.bmod_mul_bmod, Int.sub_bmod_bmod]
theorem w32_rem (x y : Int32) (hy : ¬ y = 0) : (x - x / y * y).toInt = zirem x.toInt y.toInt := by
  have hy' : y.toInt ≠ 0 := fun h => hy (Int32.toInt_inj.mp (by rw [h]; rfl))
  have h1 := ztm_le x.toInt y.toInt hy'
  have h2 := w32_rng y
  unfold zirem
  rw [w32_sub, w32_mul, w32_div]
  unfold zidiv w32
  rw [Int.sub_bmod_bmod, ebm]
  have h3 : x.toInt - x.toInt.tdiv y.toInt * y.toInt = x.toInt.tmod y.toInt := by
    have h4 := Int.tmod_add_mul_tdiv x.toInt y.toInt
    have h5 : y.toInt * x.toInt.tdiv y.toInt = x.toInt.tdiv y.toInt * y.toInt := Int.mul_comm ..
    omega
  rw [h3]
  exact Int.bmod_eq_of_le (by omega) (by omega)
theorem w64_rem (x y : Int64) (hy : ¬ y = 0) : (x - x / y * y).toInt = zlrem x.toInt y.toInt := by
  have hy' : y.toInt ≠ 0 := fun h => hy (Int64.toInt_inj.mp (by rw [h]; rfl))
  have h1 := ztm_le x.toInt y.toInt hy'
  have h2 := w64_rng y
  unfold zlrem
  rw [w64_sub, w64_mul, w64_div]
  unfold zldiv w64
  rw [Int.sub_bmod_bmod, ebm]
  have h3 : x.toInt - x.toInt.tdiv y.toInt * y.toInt = x.toInt.tmod y.toInt := by
    have h4 := Int.tmod_add_mul_tdiv x.toInt y.toInt
    have h5 : y.toInt * x.toInt.tdiv y.toInt = x.toInt.tdiv y.toInt * y.toInt := Int.mul_comm ..
    omega
  rw [h3]
  exact Int.bmod_eq_of_le (by omega) (by omega)
theorem zand_eq (x y : Int32) : (x &&& y).toInt = zand x.toInt y.toInt := by unfold zand; rw [Int32.ofInt_toInt, Int32.ofInt_toInt]
theorem zishl_eq (x y : Int32) : (x <<< (y &&& 31)).toInt = zishl x.toInt y.toInt := by unfold zishl; rw [Int32.ofInt_toInt, Int32.ofInt_toInt]
theorem zishr_eq (x y : Int32) : (x >>> (y &&& 31)).toInt = zishr x.toInt y.toInt := by unfold zishr; rw [Int32.ofInt_toInt, Int32.ofInt_toInt]
theorem ziushr_eq (x y : Int32) : ((x.toUInt32 >>> (y.toUInt32 &&& Int32.toUInt32 31)).toInt32).toInt = ziushr x.toInt y.toInt := by unfold ziushr; rw [Int32.ofInt_toInt, Int32.ofInt_toInt]
theorem zland_eq (x y : Int64) : (x &&& y).toInt = zland x.toInt y.toInt := by unfold zland; rw [Int64.ofInt_toInt, Int64.ofInt_toInt]
theorem zlor_eq (x y : Int64) : (x ||| y).toInt = zlor x.toInt y.toInt := by unfold zlor; rw [Int64.ofInt_toInt, Int64.ofInt_toInt]
theorem zlxor_eq (x y : Int64) : (x ^^^ y).toInt = zlxor x.toInt y.toInt := by unfold zlxor; rw [Int64.ofInt_toInt, Int64.ofInt_toInt]
theorem zlshl_eq (x : Int64) (y : Int32) : (x <<< (y.toInt64 &&& 63)).toInt = zlshl x.toInt y.toInt := by unfold zlshl; rw [Int64.ofInt_toInt, Int32.ofInt_toInt]
theorem zlshr_eq (x : Int64) (y : Int32) : (x >>> (y.toInt64 &&& 63)).toInt = zlshr x.toInt y.toInt := by unfold zlshr; rw [Int64.ofInt_toInt, Int32.ofInt_toInt]
theorem zlushr_eq (x : Int64) (y : Int32) : ((x.toUInt64 >>> (y.toInt64.toUInt64 &&& Int64.toUInt64 63)).toInt64).toInt = zlushr x.toInt y.toInt := by unfold zlushr; rw [Int64.ofInt_toInt, Int32.ofInt_toInt]
theorem zlcmp_eq (x y : Int64) : (lg_cmp x y).toInt = zlcmp x.toInt y.toInt := by
  unfold lg_cmp zlcmp
  by_cases h : x > y
  · rw [if_pos h, if_pos (Int64.lt_iff_toInt_lt.mp h)]; rfl
  · rw [if_neg h, if_neg (fun q => h (Int64.lt_iff_toInt_lt.mpr q))]
    by_cases h2 : x = y
    · rw [if_pos h2, if_pos (by rw [h2])]; rfl
    · rw [if_neg h2, if_neg (fun q => h2 (Int64.toInt_inj.mp q))]; rfl
theorem i2l_eq (x : Int32) : x.toInt64.toInt = x.toInt := by simp
theorem l2i_eq (x : Int64) : x.toInt32.toInt = w32 x.toInt := by rw [Int64.toInt_toInt32]; rfl
theorem i2b_eq (x : Int32) : x.toInt8.toInt32.toInt = w8 x.toInt := by rw [Int8.toInt_toInt32, Int32.toInt_toInt8]; rfl
theorem i2s_eq (x : Int32) : x.toInt16.toInt32.toInt = w16 x.toInt := by rw [Int16.toInt_toInt32, Int32.toInt_toInt16]; rfl
theorem ez (i : Int32) : i = 0 ↔ i.toInt = 0 := ⟨fun h => by rw [h]; rfl, fun h => Int32.toInt_inj.mp (by rw [h]; rfl)⟩
theorem ee (i j : Int32) : i = j ↔ i.toInt = j.toInt := Int32.toInt_inj.symm
theorem ll (i j : Int32) : i < j ↔ i.toInt < j.toInt := Int32.lt_iff_toInt_lt
theorem le (i j : Int32) : i ≤ j ↔ i.toInt ≤ j.toInt := Int32.le_iff_toInt_le
theorem lz (i : Int32) : i < 0 ↔ i.toInt < 0 := ll i 0
theorem zl (i : Int32) : 0 ≤ i ↔ 0 ≤ i.toInt := le 0 i
theorem zlt (i : Int32) : 0 < i ↔ 0 < i.toInt := ll 0 i
theorem lez (i : Int32) : i ≤ 0 ↔ i.toInt ≤ 0 := le i 0
/-- a reference as the kit writes it -/
theorem zrf {M : ZM} {t a : Int} {x : Value} (h : zV M (t, a) x) (ht : 10 ≤ t) : ∃ r : Option Nat, x = va_rf r ∧ ((a = 0 ∧ r = none) ∨ (a ≠ 0 ∧ M.2 a ∧ r = some (M.1 a))) := by
  rcases zV_ref h ht with ⟨q, rfl⟩ | ⟨q, q1, q2, rfl⟩
  · exact ⟨none, rfl, Or.inl ⟨q, rfl⟩⟩
  · exact ⟨some (M.1 a), rfl, Or.inr ⟨q, q2, rfl⟩⟩
theorem zrf_eq {G : ZG} {M : ZM} {S : Sto} {H : Heap} (hH : zHR G M S H) {a b : Int} {ra rb : Option Nat} (ha : (a = 0 ∧ ra = none) ∨ (a ≠ 0 ∧ M.2 a ∧ ra = some (M.1 a))) (hb : (b = 0 ∧ rb = none) ∨ (b ≠ 0 ∧ M.2 b ∧ rb = some (M.1 b))) : ra = rb ↔ a = b := by
  rcases ha with ⟨rfl, rfl⟩ | ⟨h1, h2, rfl⟩ <;> rcases hb with ⟨rfl, rfl⟩ | ⟨h3, h4, rfl⟩
  · exact ⟨fun _ => rfl, fun _ => rfl⟩
  · exact ⟨fun h => (by cases h), fun h => absurd h.symm h3⟩
  · exact ⟨fun h => (by cases h), fun h => absurd h h1⟩
  · exact ⟨fun h => hH.2.1 a b h2 h4 (Option.some.inj h), fun h => by rw [h]⟩
section Z13
variable {p : Program} {l : Launch} {e : Env} {R : Room} {s : State} {m : MethodId} {args : Array Value} {below : List Frame} {meth : Method} {c : Code} {Q : State → Prop} {G : ZG} {M0 : ZM} {b0 b1 : Int} {k pc : Nat} {ls st : List AV} {S : Sto}
theorem zc_iadd {a b : Int} (X : zCX p s m args meth c G k) (hdg : decode (zb k) pc = .ok (.iadd, 1)) (hk : zCont p l e R s m args below meth c Q G M0 b0 b1 (pc + 1) ls ((0, w32 (a + b)) :: st) S) : zCont p l e R s m args below meth c Q G M0 b0 b1 pc ls ((0, b) :: (0, a) :: st) S := by
  intro M H locs lj sj hl hs hH he hf hv h0 h1
  obtain ⟨y, s1, rfl, hy, hs1⟩ := zSt_cons hs
  obtain ⟨x, s2, rfl, hx, hs2⟩ := zSt_cons hs1
  obtain ⟨j, rfl, rfl⟩ := zV_int hy
  obtain ⟨i, rfl, rfl⟩ := zV_int hx
  exact lv_iadd X.1 X.2.1 hdg (hk M H locs lj _ hl ⟨Or.inl ⟨rfl, _, rfl, w32_add _ _⟩, hs2⟩ hH he hf hv h0 h1)
theorem zc_isub {a b : Int} (X : zCX p s m args meth c G k) (hdg : decode (zb k) pc = .ok (.isub, 1)) (hk : zCont p l e R s m args below meth c Q G M0 b0 b1 (pc + 1) ls ((0, w32 (a - b)) :: st) S) : zCont p l e R s m args below meth c Q G M0 b0 b1 pc ls ((0, b) :: (0, a) :: st) S := by
  intro M H locs lj sj hl hs hH he hf hv h0 h1
  obtain ⟨y, s1, rfl, hy, hs1⟩ := zSt_cons hs
  obtain ⟨x, s2, rfl, hx, hs2⟩ := zSt_cons hs1
  obtain ⟨j, rfl, rfl⟩ := zV_int hy
  obtain ⟨i, rfl, rfl⟩ := zV_int hx
  exact lv_isub X.1 X.2.1 hdg (hk M H locs lj _ hl ⟨Or.inl ⟨rfl, _, rfl, w32_sub _ _⟩, hs2⟩ hH he hf hv h0 h1)
theorem zc_imul {a b : Int} (X : zCX p s m args meth c G k) (hdg : decode (zb k) pc = .ok (.imul, 1)) (hk : zCont p l e R s m args below meth c Q G M0 b0 b1 (pc + 1) ls ((0, w32 (a * b)) :: st) S) : zCont p l e R s m args below meth c Q G M0 b0 b1 pc ls ((0, b) :: (0, a) :: st) S := by
  intro M H locs lj sj hl hs hH he hf hv h0 h1
  obtain ⟨y, s1, rfl, hy, hs1⟩ := zSt_cons hs
  obtain ⟨x, s2, rfl, hx, hs2⟩ := zSt_cons hs1
  obtain ⟨j, rfl, rfl⟩ := zV_int hy
  obtain ⟨i, rfl, rfl⟩ := zV_int hx
  exact lv_imul X.1 X.2.1 hdg (hk M H locs lj _ hl ⟨Or.inl ⟨rfl, _, rfl, w32_mul _ _⟩, hs2⟩ hH he hf hv h0 h1)
theorem zc_iand {a b : Int} (X : zCX p s m args meth c G k) (hdg : decode (zb k) pc = .ok (.iand, 1)) (hk : zCont p l e R s m args below meth c Q G M0 b0 b1 (pc + 1) ls ((0, zand a b) :: st) S) : zCont p l e R s m args below meth c Q G M0 b0 b1 pc ls ((0, b) :: (0, a) :: st) S := by
  intro M H locs lj sj hl hs hH he hf hv h0 h1
  obtain ⟨y, s1, rfl, hy, hs1⟩ := zSt_cons hs
  obtain ⟨x, s2, rfl, hx, hs2⟩ := zSt_cons hs1
  obtain ⟨j, rfl, rfl⟩ := zV_int hy
  obtain ⟨i, rfl, rfl⟩ := zV_int hx
  exact lv_iand X.1 X.2.1 hdg (hk M H locs lj _ hl ⟨Or.inl ⟨rfl, _, rfl, zand_eq _ _⟩, hs2⟩ hH he hf hv h0 h1)
theorem zc_ishl {a b : Int} (X : zCX p s m args meth c G k) (hdg : decode (zb k) pc = .ok (.ishl, 1)) (hk : zCont p l e R s m args below meth c Q G M0 b0 b1 (pc + 1) ls ((0, zishl a b) :: st) S) : zCont p l e R s m args below meth c Q G M0 b0 b1 pc ls ((0, b) :: (0, a) :: st) S := by
  intro M H locs lj sj hl hs hH he hf hv h0 h1
  obtain ⟨y, s1, rfl, hy, hs1⟩ := zSt_cons hs
  obtain ⟨x, s2, rfl, hx, hs2⟩ := zSt_cons hs1
  obtain ⟨j, rfl, rfl⟩ := zV_int hy
  obtain ⟨i, rfl, rfl⟩ := zV_int hx
  exact lv_ishl X.1 X.2.1 hdg (hk M H locs lj _ hl ⟨Or.inl ⟨rfl, _, rfl, zishl_eq _ _⟩, hs2⟩ hH he hf hv h0 h1)
theorem zc_ishr {a b : Int} (X : zCX p s m args meth c G k) (hdg : decode (zb k) pc = .ok (.ishr, 1)) (hk : zCont p l e R s m args below meth c Q G M0 b0 b1 (pc + 1) ls ((0, zishr a b) :: st) S) : zCont p l e R s m args below meth c Q G M0 b0 b1 pc ls ((0, b) :: (0, a) :: st) S := by
  intro M H locs lj sj hl hs hH he hf hv h0 h1
  obtain ⟨y, s1, rfl, hy, hs1⟩ := zSt_cons hs
  obtain ⟨x, s2, rfl, hx, hs2⟩ := zSt_cons hs1
  obtain ⟨j, rfl, rfl⟩ := zV_int hy
  obtain ⟨i, rfl, rfl⟩ := zV_int hx
  exact lv_ishr X.1 X.2.1 hdg (hk M H locs lj _ hl ⟨Or.inl ⟨rfl, _, rfl, zishr_eq _ _⟩, hs2⟩ hH he hf hv h0 h1)
theorem zc_iushr {a b : Int} (X : zCX p s m args meth c G k) (hdg : decode (zb k) pc = .ok (.iushr, 1)) (hk : zCont p l e R s m args below meth c Q G M0 b0 b1 (pc + 1) ls ((0, ziushr a b) :: st) S) : zCont p l e R s m args below meth c Q G M0 b0 b1 pc ls ((0, b) :: (0, a) :: st) S := by
  intro M H locs lj sj hl hs hH he hf hv h0 h1
  obtain ⟨y, s1, rfl, hy, hs1⟩ := zSt_cons hs
  obtain ⟨x, s2, rfl, hx, hs2⟩ := zSt_cons hs1
  obtain ⟨j, rfl, rfl⟩ := zV_int hy
  obtain ⟨i, rfl, rfl⟩ := zV_int hx
  exact lv_iushr X.1 X.2.1 hdg rfl (hk M H locs lj _ hl ⟨Or.inl ⟨rfl, _, rfl, ziushr_eq _ _⟩, hs2⟩ hH he hf hv h0 h1)
theorem zc_idiv {a b : Int} (X : zCX p s m args meth c G k) (hb : b ≠ 0) (hdg : decode (zb k) pc = .ok (.idiv, 1)) (hk : zCont p l e R s m args below meth c Q G M0 b0 b1 (pc + 1) ls ((0, zidiv a b) :: st) S) : zCont p l e R s m args below meth c Q G M0 b0 b1 pc ls ((0, b) :: (0, a) :: st) S := by
  intro M H locs lj sj hl hs hH he hf hv h0 h1
  obtain ⟨y, s1, rfl, hy, hs1⟩ := zSt_cons hs
  obtain ⟨x, s2, rfl, hx, hs2⟩ := zSt_cons hs1
  obtain ⟨j, rfl, rfl⟩ := zV_int hy
  obtain ⟨i, rfl, rfl⟩ := zV_int hx
  exact lv_idiv X.1 X.2.1 hdg (fun q => hb (by rw [q]; rfl)) (hk M H locs lj _ hl ⟨Or.inl ⟨rfl, _, rfl, w32_div _ _⟩, hs2⟩ hH he hf hv h0 h1)
theorem zc_irem {a b : Int} (X : zCX p s m args meth c G k) (hb : b ≠ 0) (hdg : decode (zb k) pc = .ok (.irem, 1)) (hk : zCont p l e R s m args below meth c Q G M0 b0 b1 (pc + 1) ls ((0, zirem a b) :: st) S) : zCont p l e R s m args below meth c Q G M0 b0 b1 pc ls ((0, b) :: (0, a) :: st) S := by
  intro M H locs lj sj hl hs hH he hf hv h0 h1
  obtain ⟨y, s1, rfl, hy, hs1⟩ := zSt_cons hs
  obtain ⟨x, s2, rfl, hx, hs2⟩ := zSt_cons hs1
  obtain ⟨j, rfl, rfl⟩ := zV_int hy
  obtain ⟨i, rfl, rfl⟩ := zV_int hx
  exact lv_irem X.1 X.2.1 hdg (fun q => hb (by rw [q]; rfl)) (hk M H locs lj _ hl ⟨Or.inl ⟨rfl, _, rfl, w32_rem _ _ (fun q => hb (by rw [q]; rfl))⟩, hs2⟩ hH he hf hv h0 h1)
theorem zc_ladd {a b : Int} (X : zCX p s m args meth c G k) (hdg : decode (zb k) pc = .ok (.ladd, 1)) (hk : zCont p l e R s m args below meth c Q G M0 b0 b1 (pc + 1) ls ((1, w64 (a + b)) :: st) S) : zCont p l e R s m args below meth c Q G M0 b0 b1 pc ls ((1, b) :: (1, a) :: st) S := by
  intro M H locs lj sj hl hs hH he hf hv h0 h1
  obtain ⟨y, s1, rfl, hy, hs1⟩ := zSt_cons hs
  obtain ⟨x, s2, rfl, hx, hs2⟩ := zSt_cons hs1
  obtain ⟨j, rfl, rfl⟩ := zV_long hy
  obtain ⟨i, rfl, rfl⟩ := zV_long hx
  exact lv_ladd X.1 X.2.1 hdg (hk M H locs lj _ hl ⟨Or.inr (Or.inl ⟨rfl, _, rfl, w64_add _ _⟩), hs2⟩ hH he hf hv h0 h1)
theorem zc_lsub {a b : Int} (X : zCX p s m args meth c G k) (hdg : decode (zb k) pc = .ok (.lsub, 1)) (hk : zCont p l e R s m args below meth c Q G M0 b0 b1 (pc + 1) ls ((1, w64 (a - b)) :: st) S) : zCont p l e R s m args below meth c Q G M0 b0 b1 pc ls ((1, b) :: (1, a) :: st) S := by
  intro M H locs lj sj hl hs hH he hf hv h0 h1
  obtain ⟨y, s1, rfl, hy, hs1⟩ := zSt_cons hs
  obtain ⟨x, s2, rfl, hx, hs2⟩ := zSt_cons hs1
  obtain ⟨j, rfl, rfl⟩ := zV_long hy
  obtain ⟨i, rfl, rfl⟩ := zV_long hx
  exact lv_lsub X.1 X.2.1 hdg (hk M H locs lj _ hl ⟨Or.inr (Or.inl ⟨rfl, _, rfl, w64_sub _ _⟩), hs2⟩ hH he hf hv h0 h1)
theorem zc_lmul {a b : Int} (X : zCX p s m args meth c G k) (hdg : decode (zb k) pc = .ok (.lmul, 1)) (hk : zCont p l e R s m args below meth c Q G M0 b0 b1 (pc + 1) ls ((1, w64 (a * b)) :: st) S) : zCont p l e R s m args below meth c Q G M0 b0 b1 pc ls ((1, b) :: (1, a) :: st) S := by
  intro M H locs lj sj hl hs hH he hf hv h0 h1
  obtain ⟨y, s1, rfl, hy, hs1⟩ := zSt_cons hs
  obtain ⟨x, s2, rfl, hx, hs2⟩ := zSt_cons hs1
  obtain ⟨j, rfl, rfl⟩ := zV_long hy
  obtain ⟨i, rfl, rfl⟩ := zV_long hx
  exact lv_lmul X.1 X.2.1 hdg (hk M H locs lj _ hl ⟨Or.inr (Or.inl ⟨rfl, _, rfl, w64_mul _ _⟩), hs2⟩ hH he hf hv h0 h1)
theorem zc_land {a b : Int} (X : zCX p s m args meth c G k) (hdg : decode (zb k) pc = .ok (.land, 1)) (hk : zCont p l e R s m args below meth c Q G M0 b0 b1 (pc + 1) ls ((1, zland a b) :: st) S) : zCont p l e R s m args below meth c Q G M0 b0 b1 pc ls ((1, b) :: (1, a) :: st) S := by
  intro M H locs lj sj hl hs hH he hf hv h0 h1
  obtain ⟨y, s1, rfl, hy, hs1⟩ := zSt_cons hs
  obtain ⟨x, s2, rfl, hx, hs2⟩ := zSt_cons hs1
  obtain ⟨j, rfl, rfl⟩ := zV_long hy
  obtain ⟨i, rfl, rfl⟩ := zV_long hx
  exact lv_land X.1 X.2.1 hdg (hk M H locs lj _ hl ⟨Or.inr (Or.inl ⟨rfl, _, rfl, zland_eq _ _⟩), hs2⟩ hH he hf hv h0 h1)
theorem zc_lor {a b : Int} (X : zCX p s m args meth c G k) (hdg : decode (zb k) pc = .ok (.lor, 1)) (hk : zCont p l e R s m args below meth c Q G M0 b0 b1 (pc + 1) ls ((1, zlor a b) :: st) S) : zCont p l e R s m args below meth c Q G M0 b0 b1 pc ls ((1, b) :: (1, a) :: st) S := by
  intro M H locs lj sj hl hs hH he hf hv h0 h1
  obtain ⟨y, s1, rfl, hy, hs1⟩ := zSt_cons hs
  obtain ⟨x, s2, rfl, hx, hs2⟩ := zSt_cons hs1
  obtain ⟨j, rfl, rfl⟩ := zV_long hy
  obtain ⟨i, rfl, rfl⟩ := zV_long hx
  exact lv_lor X.1 X.2.1 hdg (hk M H locs lj _ hl ⟨Or.inr (Or.inl ⟨rfl, _, rfl, zlor_eq _ _⟩), hs2⟩ hH he hf hv h0 h1)
theorem zc_lxor {a b : Int} (X : zCX p s m args meth c G k) (hdg : decode (zb k) pc = .ok (.lxor, 1)) (hk : zCont p l e R s m args below meth c Q G M0 b0 b1 (pc + 1) ls ((1, zlxor a b) :: st) S) : zCont p l e R s m args below meth c Q G M0 b0 b1 pc ls ((1, b) :: (1, a) :: st) S := by
  intro M H locs lj sj hl hs hH he hf hv h0 h1
  obtain ⟨y, s1, rfl, hy, hs1⟩ := zSt_cons hs
  obtain ⟨x, s2, rfl, hx, hs2⟩ := zSt_cons hs1
  obtain ⟨j, rfl, rfl⟩ := zV_long hy
  obtain ⟨i, rfl, rfl⟩ := zV_long hx
  exact lv_lxor X.1 X.2.1 hdg (hk M H locs lj _ hl ⟨Or.inr (Or.inl ⟨rfl, _, rfl, zlxor_eq _ _⟩), hs2⟩ hH he hf hv h0 h1)
theorem zc_ldiv {a b : Int} (X : zCX p s m args meth c G k) (hb : b ≠ 0) (hdg : decode (zb k) pc = .ok (.ldiv, 1)) (hk : zCont p l e R s m args below meth c Q G M0 b0 b1 (pc + 1) ls ((1, zldiv a b) :: st) S) : zCont p l e R s m args below meth c Q G M0 b0 b1 pc ls ((1, b) :: (1, a) :: st) S := by
  intro M H locs lj sj hl hs hH he hf hv h0 h1
  obtain ⟨y, s1, rfl, hy, hs1⟩ := zSt_cons hs
  obtain ⟨x, s2, rfl, hx, hs2⟩ := zSt_cons hs1
  obtain ⟨j, rfl, rfl⟩ := zV_long hy
  obtain ⟨i, rfl, rfl⟩ := zV_long hx
  exact lv_ldiv X.1 X.2.1 hdg (fun q => hb (by rw [q]; rfl)) (hk M H locs lj _ hl ⟨Or.inr (Or.inl ⟨rfl, _, rfl, w64_div _ _⟩), hs2⟩ hH he hf hv h0 h1)
theorem zc_lrem {a b : Int} (X : zCX p s m args meth c G k) (hb : b ≠ 0) (hdg : decode (zb k) pc = .ok (.lrem, 1)) (hk : zCont p l e R s m args below meth c Q G M0 b0 b1 (pc + 1) ls ((1, zlrem a b) :: st) S) : zCont p l e R s m args below meth c Q G M0 b0 b1 pc ls ((1, b) :: (1, a) :: st) S := by
  intro M H locs lj sj hl hs hH he hf hv h0 h1
  obtain ⟨y, s1, rfl, hy, hs1⟩ := zSt_cons hs
  obtain ⟨x, s2, rfl, hx, hs2⟩ := zSt_cons hs1
  obtain ⟨j, rfl, rfl⟩ := zV_long hy
  obtain ⟨i, rfl, rfl⟩ := zV_long hx
  exact lv_lrem X.1 X.2.1 hdg (fun q => hb (by rw [q]; rfl)) (hk M H locs lj _ hl ⟨Or.inr (Or.inl ⟨rfl, _, rfl, w64_rem _ _ (fun q => hb (by rw [q]; rfl))⟩), hs2⟩ hH he hf hv h0 h1)
theorem zc_lcmp {a b : Int} (X : zCX p s m args meth c G k) (hdg : decode (zb k) pc = .ok (.lcmp, 1)) (hk : zCont p l e R s m args below meth c Q G M0 b0 b1 (pc + 1) ls ((0, zlcmp a b) :: st) S) : zCont p l e R s m args below meth c Q G M0 b0 b1 pc ls ((1, b) :: (1, a) :: st) S := by
  intro M H locs lj sj hl hs hH he hf hv h0 h1
  obtain ⟨y, s1, rfl, hy, hs1⟩ := zSt_cons hs
  obtain ⟨x, s2, rfl, hx, hs2⟩ := zSt_cons hs1
  obtain ⟨j, rfl, rfl⟩ := zV_long hy
  obtain ⟨i, rfl, rfl⟩ := zV_long hx
  exact W.lcmp X.1 X.2.1 hdg (hk M H locs lj _ hl ⟨Or.inl ⟨rfl, _, rfl, zlcmp_eq _ _⟩, hs2⟩ hH he hf hv h0 h1)
theorem zc_lshl {a b : Int} (X : zCX p s m args meth c G k) (hdg : decode (zb k) pc = .ok (.lshl, 1)) (hk : zCont p l e R s m args below meth c Q G M0 b0 b1 (pc + 1) ls ((1, zlshl a b) :: st) S) : zCont p l e R s m args below meth c Q G M0 b0 b1 pc ls ((0, b) :: (1, a) :: st) S := by
  intro M H locs lj sj hl hs hH he hf hv h0 h1
  obtain ⟨y, s1, rfl, hy, hs1⟩ := zSt_cons hs
  obtain ⟨x, s2, rfl, hx, hs2⟩ := zSt_cons hs1
  obtain ⟨j, rfl, rfl⟩ := zV_int hy
  obtain ⟨i, rfl, rfl⟩ := zV_long hx
  exact lv_lshl X.1 X.2.1 hdg rfl (hk M H locs lj _ hl ⟨Or.inr (Or.inl ⟨rfl, _, rfl, zlshl_eq _ _⟩), hs2⟩ hH he hf hv h0 h1)
theorem zc_lshr {a b : Int} (X : zCX p s m args meth c G k) (hdg : decode (zb k) pc = .ok (.lshr, 1)) (hk : zCont p l e R s m args below meth c Q G M0 b0 b1 (pc + 1) ls ((1, zlshr a b) :: st) S) : zCont p l e R s m args below meth c Q G M0 b0 b1 pc ls ((0, b) :: (1, a) :: st) S := by
  intro M H locs lj sj hl hs hH he hf hv h0 h1
  obtain ⟨y, s1, rfl, hy, hs1⟩ := zSt_cons hs
  obtain ⟨x, s2, rfl, hx, hs2⟩ := zSt_cons hs1
  obtain ⟨j, rfl, rfl⟩ := zV_int hy
  obtain ⟨i, rfl, rfl⟩ := zV_long hx
  exact lv_lshr X.1 X.2.1 hdg rfl (hk M H locs lj _ hl ⟨Or.inr (Or.inl ⟨rfl, _, rfl, zlshr_eq _ _⟩), hs2⟩ hH he hf hv h0 h1)
theorem zc_lushr {a b : Int} (X : zCX p s m args meth c G k) (hdg : decode (zb k) pc = .ok (.lushr, 1)) (hk : zCont p l e R s m args below meth c Q G M0 b0 b1 (pc + 1) ls ((1, zlushr a b) :: st) S) : zCont p l e R s m args below meth c Q G M0 b0 b1 pc ls ((0, b) :: (1, a) :: st) S := by
  intro M H locs lj sj hl hs hH he hf hv h0 h1
  obtain ⟨y, s1, rfl, hy, hs1⟩ := zSt_cons hs
  obtain ⟨x, s2, rfl, hx, hs2⟩ := zSt_cons hs1
  obtain ⟨j, rfl, rfl⟩ := zV_int hy
  obtain ⟨i, rfl, rfl⟩ := zV_long hx
  exact lv_lushr X.1 X.2.1 hdg rfl (hk M H locs lj _ hl ⟨Or.inr (Or.inl ⟨rfl, _, rfl, zlushr_eq _ _⟩), hs2⟩ hH he hf hv h0 h1)
theorem zc_ineg {a : Int} (X : zCX p s m args meth c G k) (hdg : decode (zb k) pc = .ok (.ineg, 1)) (hk : zCont p l e R s m args below meth c Q G M0 b0 b1 (pc + 1) ls ((0, w32 (-a)) :: st) S) : zCont p l e R s m args below meth c Q G M0 b0 b1 pc ls ((0, a) :: st) S := by
  intro M H locs lj sj hl hs hH he hf hv h0 h1
  obtain ⟨x, s1, rfl, hx, hs1⟩ := zSt_cons hs
  obtain ⟨i, rfl, rfl⟩ := zV_int hx
  exact lv_ineg X.1 X.2.1 hdg (hk M H locs lj _ hl ⟨Or.inl ⟨rfl, _, rfl, w32_neg _⟩, hs1⟩ hH he hf hv h0 h1)
theorem zc_i2l {a : Int} (X : zCX p s m args meth c G k) (hdg : decode (zb k) pc = .ok (.i2l, 1)) (hk : zCont p l e R s m args below meth c Q G M0 b0 b1 (pc + 1) ls ((1, a) :: st) S) : zCont p l e R s m args below meth c Q G M0 b0 b1 pc ls ((0, a) :: st) S := by
  intro M H locs lj sj hl hs hH he hf hv h0 h1
  obtain ⟨x, s1, rfl, hx, hs1⟩ := zSt_cons hs
  obtain ⟨i, rfl, rfl⟩ := zV_int hx
  exact lv_i2l X.1 X.2.1 hdg rfl (hk M H locs lj _ hl ⟨Or.inr (Or.inl ⟨rfl, _, rfl, i2l_eq _⟩), hs1⟩ hH he hf hv h0 h1)
theorem zc_i2b {a : Int} (X : zCX p s m args meth c G k) (hdg : decode (zb k) pc = .ok (.i2b, 1)) (hk : zCont p l e R s m args below meth c Q G M0 b0 b1 (pc + 1) ls ((0, w8 a) :: st) S) : zCont p l e R s m args below meth c Q G M0 b0 b1 pc ls ((0, a) :: st) S := by
  intro M H locs lj sj hl hs hH he hf hv h0 h1
  obtain ⟨x, s1, rfl, hx, hs1⟩ := zSt_cons hs
  obtain ⟨i, rfl, rfl⟩ := zV_int hx
  exact lv_i2b X.1 X.2.1 hdg rfl (hk M H locs lj _ hl ⟨Or.inl ⟨rfl, _, rfl, i2b_eq _⟩, hs1⟩ hH he hf hv h0 h1)
theorem zc_i2s {a : Int} (X : zCX p s m args meth c G k) (hdg : decode (zb k) pc = .ok (.i2s, 1)) (hk : zCont p l e R s m args below meth c Q G M0 b0 b1 (pc + 1) ls ((0, w16 a) :: st) S) : zCont p l e R s m args below meth c Q G M0 b0 b1 pc ls ((0, a) :: st) S := by
  intro M H locs lj sj hl hs hH he hf hv h0 h1
  obtain ⟨x, s1, rfl, hx, hs1⟩ := zSt_cons hs
  obtain ⟨i, rfl, rfl⟩ := zV_int hx
  exact lv_i2s X.1 X.2.1 hdg rfl (hk M H locs lj _ hl ⟨Or.inl ⟨rfl, _, rfl, i2s_eq _⟩, hs1⟩ hH he hf hv h0 h1)
theorem zc_l2i {a : Int} (X : zCX p s m args meth c G k) (hdg : decode (zb k) pc = .ok (.l2i, 1)) (hk : zCont p l e R s m args below meth c Q G M0 b0 b1 (pc + 1) ls ((0, w32 a) :: st) S) : zCont p l e R s m args below meth c Q G M0 b0 b1 pc ls ((1, a) :: st) S := by
  intro M H locs lj sj hl hs hH he hf hv h0 h1
  obtain ⟨x, s1, rfl, hx, hs1⟩ := zSt_cons hs
  obtain ⟨i, rfl, rfl⟩ := zV_long hx
  exact lv_l2i X.1 X.2.1 hdg rfl (hk M H locs lj _ hl ⟨Or.inl ⟨rfl, _, rfl, l2i_eq _⟩, hs1⟩ hH he hf hv h0 h1)
theorem zc_iconst {n v : Int} (X : zCX p s m args meth c G k) (hdg : decode (zb k) pc = .ok (.iconst n, 1)) (hvv : (Int32.ofInt n).toInt = v) (hk : zCont p l e R s m args below meth c Q G M0 b0 b1 (pc + 1) ls ((0, v) :: st) S) : zCont p l e R s m args below meth c Q G M0 b0 b1 pc ls st S := by
  intro M H locs lj sj hl hs hH he hf hv h0 h1
  exact lv_iconst X.1 X.2.1 hdg rfl (hk M H locs lj _ hl ⟨Or.inl ⟨rfl, _, rfl, hvv⟩, hs⟩ hH he hf ‹zSv G M s H› h0 h1)
theorem zc_bipush {n v : Int} (X : zCX p s m args meth c G k) (hdg : decode (zb k) pc = .ok (.bipush n, 2)) (hvv : (Int8.ofInt n).toInt32.toInt = v) (hk : zCont p l e R s m args below meth c Q G M0 b0 b1 (pc + 2) ls ((0, v) :: st) S) : zCont p l e R s m args below meth c Q G M0 b0 b1 pc ls st S := by
  intro M H locs lj sj hl hs hH he hf hv h0 h1
  exact lv_bipush X.1 X.2.1 hdg rfl (hk M H locs lj _ hl ⟨Or.inl ⟨rfl, _, rfl, hvv⟩, hs⟩ hH he hf ‹zSv G M s H› h0 h1)
theorem zc_sipush {n v : Int} (X : zCX p s m args meth c G k) (hdg : decode (zb k) pc = .ok (.sipush n, 3)) (hvv : (Int16.ofInt n).toInt32.toInt = v) (hk : zCont p l e R s m args below meth c Q G M0 b0 b1 (pc + 3) ls ((0, v) :: st) S) : zCont p l e R s m args below meth c Q G M0 b0 b1 pc ls st S := by
  intro M H locs lj sj hl hs hH he hf hv h0 h1
  exact lv_sipush X.1 X.2.1 hdg rfl (hk M H locs lj _ hl ⟨Or.inl ⟨rfl, _, rfl, hvv⟩, hs⟩ hH he hf ‹zSv G M s H› h0 h1)
theorem zc_lconst {n : Fin 2} {v : Int} (X : zCX p s m args meth c G k) (hdg : decode (zb k) pc = .ok (.lconst n, 1)) (hvv : (Int64.ofNat (n : Nat)).toInt = v) (hk : zCont p l e R s m args below meth c Q G M0 b0 b1 (pc + 1) ls ((1, v) :: st) S) : zCont p l e R s m args below meth c Q G M0 b0 b1 pc ls st S := by
  intro M H locs lj sj hl hs hH he hf hv h0 h1
  exact lv_lconst X.1 X.2.1 hdg rfl (hk M H locs lj _ hl ⟨Or.inr (Or.inl ⟨rfl, _, rfl, hvv⟩), hs⟩ hH he hf ‹zSv G M s H› h0 h1)
theorem zc_ldc {n : Nat} {v : Int} {x : Int32} (X : zCX p s m args meth c G k) (hm : (zon k, n, x) ∈ zld) (hdg : decode (zb k) pc = .ok (.ldc n, 2)) (hx : x.toInt = v) (hk : zCont p l e R s m args below meth c Q G M0 b0 b1 (pc + 2) ls ((0, v) :: st) S) : zCont p l e R s m args below meth c Q G M0 b0 b1 pc ls st S := by
  intro M H locs lj sj hl hs hH he hf hv h0 h1
  exact lv_ldc X.1 X.2.1 X.2.2.2.1 (X.2.2.2.2.1 _ (zld_ok _ hm)) hdg (hk M H locs lj _ hl ⟨Or.inl ⟨rfl, _, rfl, hx⟩, hs⟩ hH he hf hv h0 h1)
theorem zc_ldc2 {n : Nat} {v : Int} {x : Int64} (X : zCX p s m args meth c G k) (hm : (zon k, n, x) ∈ zldd) (hdg : decode (zb k) pc = .ok (.ldc2_w n, 3)) (hx : x.toInt = v) (hk : zCont p l e R s m args below meth c Q G M0 b0 b1 (pc + 3) ls ((1, v) :: st) S) : zCont p l e R s m args below meth c Q G M0 b0 b1 pc ls st S := by
  intro M H locs lj sj hl hs hH he hf hv h0 h1
  exact lv_ldc2 X.1 X.2.1 X.2.2.2.1 (X.2.2.2.2.1 _ (zldd_ok _ hm)) hdg (hk M H locs lj _ hl ⟨Or.inr (Or.inl ⟨rfl, _, rfl, hx⟩), hs⟩ hH he hf hv h0 h1)
theorem zc_null {t : Int} (X : zCX p s m args meth c G k) (ht : 10 ≤ t) (hdg : decode (zb k) pc = .ok (.aconst_null, 1)) (hk : zCont p l e R s m args below meth c Q G M0 b0 b1 (pc + 1) ls ((t, 0) :: st) S) : zCont p l e R s m args below meth c Q G M0 b0 b1 pc ls st S := by
  intro M H locs lj sj hl hs hH he hf hv h0 h1
  exact lv_null X.1 X.2.1 hdg (hk M H locs lj _ hl ⟨zV_null ht, hs⟩ hH he hf hv h0 h1)
theorem zc_iload {n : Nat} {v : Int} (X : zCX p s m args meth c G k) (hg : ls[n]? = some (0, v)) (hdg : decode (zb k) pc = .ok (.iload n, 2)) (hk : zCont p l e R s m args below meth c Q G M0 b0 b1 (pc + 2) ls ((0, v) :: st) S) : zCont p l e R s m args below meth c Q G M0 b0 b1 pc ls st S := by
  intro M H locs lj sj hl hs hH he hf hv h0 h1
  obtain ⟨x, hx1, hx2⟩ := zL_at hl hg (by simp)
  obtain ⟨i, rfl, hi⟩ := zV_int hx2
  exact lv_iload X.1 X.2.1 hdg hx1 (hk M H locs lj _ hl ⟨hx2, hs⟩ hH he hf hv h0 h1)
theorem zc_iload_n {q : Fin 4} {n : Nat} {v : Int} (X : zCX p s m args meth c G k) (hq : (q : Nat) = n) (hg : ls[n]? = some (0, v)) (hdg : decode (zb k) pc = .ok (.iload_n q, 1)) (hk : zCont p l e R s m args below meth c Q G M0 b0 b1 (pc + 1) ls ((0, v) :: st) S) : zCont p l e R s m args below meth c Q G M0 b0 b1 pc ls st S := by
  intro M H locs lj sj hl hs hH he hf hv h0 h1
  obtain ⟨x, hx1, hx2⟩ := zL_at hl hg (by simp)
  obtain ⟨i, rfl, hi⟩ := zV_int hx2
  exact lv_iload_n X.1 X.2.1 hdg hq hx1 (hk M H locs lj _ hl ⟨hx2, hs⟩ hH he hf hv h0 h1)
theorem zc_lload {n : Nat} {v : Int} (X : zCX p s m args meth c G k) (hg : ls[n]? = some (1, v)) (hdg : decode (zb k) pc = .ok (.lload n, 2)) (hk : zCont p l e R s m args below meth c Q G M0 b0 b1 (pc + 2) ls ((1, v) :: st) S) : zCont p l e R s m args below meth c Q G M0 b0 b1 pc ls st S := by
  intro M H locs lj sj hl hs hH he hf hv h0 h1
  obtain ⟨x, hx1, hx2⟩ := zL_at hl hg (by simp)
  obtain ⟨i, rfl, hi⟩ := zV_long hx2
  exact lv_lload X.1 X.2.1 hdg hx1 (hk M H locs lj _ hl ⟨hx2, hs⟩ hH he hf hv h0 h1)
theorem zc_lload_n {q : Fin 4} {n : Nat} {v : Int} (X : zCX p s m args meth c G k) (hq : (q : Nat) = n) (hg : ls[n]? = some (1, v)) (hdg : decode (zb k) pc = .ok (.lload_n q, 1)) (hk : zCont p l e R s m args below meth c Q G M0 b0 b1 (pc + 1) ls ((1, v) :: st) S) : zCont p l e R s m args below meth c Q G M0 b0 b1 pc ls st S := by
  intro M H locs lj sj hl hs hH he hf hv h0 h1
  obtain ⟨x, hx1, hx2⟩ := zL_at hl hg (by simp)
  obtain ⟨i, rfl, hi⟩ := zV_long hx2
  exact lv_lload_n X.1 X.2.1 hdg hq hx1 (hk M H locs lj _ hl ⟨hx2, hs⟩ hH he hf hv h0 h1)
theorem zc_aload {n : Nat} {t v : Int} (X : zCX p s m args meth c G k) (ht : 10 ≤ t) (hg : ls[n]? = some (t, v)) (hdg : decode (zb k) pc = .ok (.aload n, 2)) (hk : zCont p l e R s m args below meth c Q G M0 b0 b1 (pc + 2) ls ((t, v) :: st) S) : zCont p l e R s m args below meth c Q G M0 b0 b1 pc ls st S := by
  intro M H locs lj sj hl hs hH he hf hv h0 h1
  obtain ⟨x, hx1, hx2⟩ := zL_at hl hg (by simp; omega)
  rcases zV_ref hx2 ht with ⟨-, rfl⟩ | ⟨-, -, -, rfl⟩
  · exact lv_aloadN X.1 X.2.1 hdg hx1 (hk M H locs lj _ hl ⟨hx2, hs⟩ hH he hf hv h0 h1)
  · exact lv_aload X.1 X.2.1 hdg hx1 (hk M H locs lj _ hl ⟨hx2, hs⟩ hH he hf hv h0 h1)
theorem zc_aload_n {q : Fin 4} {n : Nat} {t v : Int} (X : zCX p s m args meth c G k) (ht : 10 ≤ t) (hq : (q : Nat) = n) (hg : ls[n]? = some (t, v)) (hdg : decode (zb k) pc = .ok (.aload_n q, 1)) (hk : zCont p l e R s m args below meth c Q G M0 b0 b1 (pc + 1) ls ((t, v) :: st) S) : zCont p l e R s m args below meth c Q G M0 b0 b1 pc ls st S := by
  intro M H locs lj sj hl hs hH he hf hv h0 h1
  obtain ⟨x, hx1, hx2⟩ := zL_at hl hg (by simp; omega)
  rcases zV_ref hx2 ht with ⟨-, rfl⟩ | ⟨-, -, -, rfl⟩
  · exact lv_aload_nN X.1 X.2.1 hdg hq hx1 (hk M H locs lj _ hl ⟨hx2, hs⟩ hH he hf hv h0 h1)
  · exact lv_aload_n X.1 X.2.1 hdg hq hx1 (hk M H locs lj _ hl ⟨hx2, hs⟩ hH he hf hv h0 h1)
theorem zc_istore {n : Nat} {v : Int} (X : zCX p s m args meth c G k) (hn : n < ls.length) (hdg : decode (zb k) pc = .ok (.istore n, 2)) (hk : zCont p l e R s m args below meth c Q G M0 b0 b1 (pc + 2) (zst1 ls n (0, v)) st S) : zCont p l e R s m args below meth c Q G M0 b0 b1 pc ls ((0, v) :: st) S := by
  intro M H locs lj sj hl hs hH he hf hv h0 h1
  obtain ⟨x, s1, rfl, hx, hs1⟩ := zSt_cons hs
  obtain ⟨lv, hl1, hl2⟩ := id hl
  obtain ⟨i, rfl, hi⟩ := zV_int hx
  exact lv_istore X.1 X.2.1 hdg hl1 hn rfl (fun ls2 h2 => hk M H locs ls2 _ (zL_st1 hl n _ _ hx hl1 hl2 h2) hs1 hH he hf hv h0 h1)
theorem zc_istore_n {q : Fin 4} {n : Nat} {v : Int} (X : zCX p s m args meth c G k) (hq : (q : Nat) = n) (hn : n < ls.length) (hdg : decode (zb k) pc = .ok (.istore_n q, 1)) (hk : zCont p l e R s m args below meth c Q G M0 b0 b1 (pc + 1) (zst1 ls n (0, v)) st S) : zCont p l e R s m args below meth c Q G M0 b0 b1 pc ls ((0, v) :: st) S := by
  intro M H locs lj sj hl hs hH he hf hv h0 h1
  obtain ⟨x, s1, rfl, hx, hs1⟩ := zSt_cons hs
  obtain ⟨lv, hl1, hl2⟩ := id hl
  obtain ⟨i, rfl, hi⟩ := zV_int hx
  exact lv_istore_n X.1 X.2.1 hdg hq hl1 hn rfl (fun ls2 h2 => hk M H locs ls2 _ (zL_st1 hl n _ _ hx hl1 hl2 h2) hs1 hH he hf hv h0 h1)
theorem zc_astore {n : Nat} {t v : Int} (X : zCX p s m args meth c G k) (ht : 10 ≤ t) (hn : n < ls.length) (hdg : decode (zb k) pc = .ok (.astore n, 2)) (hk : zCont p l e R s m args below meth c Q G M0 b0 b1 (pc + 2) (zst1 ls n (t, v)) st S) : zCont p l e R s m args below meth c Q G M0 b0 b1 pc ls ((t, v) :: st) S := by
  intro M H locs lj sj hl hs hH he hf hv h0 h1
  obtain ⟨x, s1, rfl, hx, hs1⟩ := zSt_cons hs
  obtain ⟨lv, hl1, hl2⟩ := id hl
  rcases zV_ref hx ht with ⟨-, rfl⟩ | ⟨-, -, -, rfl⟩
  · exact lv_astoreN X.1 X.2.1 hdg hl1 hn rfl (fun ls2 h2 => hk M H locs ls2 _ (zL_st1 hl n _ _ hx hl1 hl2 h2) hs1 hH he hf hv h0 h1)
  · exact lv_astore X.1 X.2.1 hdg hl1 hn rfl (fun ls2 h2 => hk M H locs ls2 _ (zL_st1 hl n _ _ hx hl1 hl2 h2) hs1 hH he hf hv h0 h1)
theorem zc_lstore {n : Nat} {v : Int} (X : zCX p s m args meth c G k) (hn : n + 1 < ls.length) (hdg : decode (zb k) pc = .ok (.lstore n, 2)) (hk : zCont p l e R s m args below meth c Q G M0 b0 b1 (pc + 2) (zst2 ls n (1, v)) st S) : zCont p l e R s m args below meth c Q G M0 b0 b1 pc ls ((1, v) :: st) S := by
  intro M H locs lj sj hl hs hH he hf hv h0 h1
  obtain ⟨x, s1, rfl, hx, hs1⟩ := zSt_cons hs
  obtain ⟨lv, hl1, hl2⟩ := id hl
  obtain ⟨i, rfl, hi⟩ := zV_long hx
  exact lv_lstore X.1 X.2.1 hdg hl1 hn rfl (fun ls2 h2 => hk M H locs ls2 _ (zL_st2 (lj := lj) n _ _ hx hl2 h2) hs1 hH he hf hv h0 h1)
theorem zc_astore_n {q : Fin 4} {n : Nat} {t v : Int} (X : zCX p s m args meth c G k) (hq : (q : Nat) = n) (ht : 10 ≤ t) (hn : n < ls.length) (hdg : decode (zb k) pc = .ok (.astore_n q, 1)) (hk : zCont p l e R s m args below meth c Q G M0 b0 b1 (pc + 1) (zst1 ls n (t, v)) st S) : zCont p l e R s m args below meth c Q G M0 b0 b1 pc ls ((t, v) :: st) S := by
  intro M H locs lj sj hl hs hH he hf hv h0 h1
  obtain ⟨x, s1, rfl, hx, hs1⟩ := zSt_cons hs
  obtain ⟨lv, hl1, hl2⟩ := id hl
  rcases zV_ref hx ht with ⟨-, rfl⟩ | ⟨-, -, -, rfl⟩
  · exact lv_astore_nN X.1 X.2.1 hdg hq hl1 hn rfl (fun ls2 h2 => hk M H locs ls2 _ (zL_st1 hl n _ _ hx hl1 hl2 h2) hs1 hH he hf hv h0 h1)
  · exact lv_astore_n X.1 X.2.1 hdg hq hl1 hn rfl (fun ls2 h2 => hk M H locs ls2 _ (zL_st1 hl n _ _ hx hl1 hl2 h2) hs1 hH he hf hv h0 h1)
theorem zc_lstore_n {q : Fin 4} {n : Nat} {v : Int} (X : zCX p s m args meth c G k) (hq : (q : Nat) = n) (hn : n + 1 < ls.length) (hdg : decode (zb k) pc = .ok (.lstore_n q, 1)) (hk : zCont p l e R s m args below meth c Q G M0 b0 b1 (pc + 1) (zst2 ls n (1, v)) st S) : zCont p l e R s m args below meth c Q G M0 b0 b1 pc ls ((1, v) :: st) S := by
  intro M H locs lj sj hl hs hH he hf hv h0 h1
  obtain ⟨x, s1, rfl, hx, hs1⟩ := zSt_cons hs
  obtain ⟨lv, hl1, hl2⟩ := id hl
  obtain ⟨i, rfl, hi⟩ := zV_long hx
  exact lv_lstore_n X.1 X.2.1 hdg hq hl1 hn rfl (fun ls2 h2 => hk M H locs ls2 _ (zL_st2 (lj := lj) n _ _ hx hl2 h2) hs1 hH he hf hv h0 h1)
theorem zc_iinc {n : Nat} {d v : Int} (X : zCX p s m args meth c G k) (hg : ls[n]? = some (0, v)) (hd : (Int32.ofInt d).toInt = d) (hdg : decode (zb k) pc = .ok (.iinc n d, 3)) (hk : zCont p l e R s m args below meth c Q G M0 b0 b1 (pc + 3) (zst1 ls n (0, w32 (v + d))) st S) : zCont p l e R s m args below meth c Q G M0 b0 b1 pc ls st S := by
  intro M H locs lj sj hl hs hH he hf hv h0 h1
  obtain ⟨lv, hl1, hl2⟩ := id hl
  obtain ⟨x, hx1, hx2⟩ := hl2 n _ hg (by simp)
  obtain ⟨i, rfl, hi⟩ := zV_int hx2
  obtain ⟨q, hq⟩ := List.getElem?_of_mem hx1
  have hn : n < ls.length := (List.getElem?_eq_some_iff.mp hg).1
  have hx : zV M (0, w32 (v + d)) (.int (i + Int32.ofInt d)) := Or.inl ⟨rfl, _, rfl, by rw [w32_add, hi, hd]⟩
  exact lv_iinc X.1 X.2.1 hdg hl1 hq rfl hn rfl (fun ls2 h2 => hk M H locs ls2 _ (zL_st1 hl n _ _ hx hl1 hl2 h2) hs hH he hf hv h0 h1)
theorem zc_dup {t a : Int} (X : zCX p s m args meth c G k) (ht : ¬ (t = 1 ∨ t = 9)) (hdg : decode (zb k) pc = .ok (.dup, 1)) (hk : zCont p l e R s m args below meth c Q G M0 b0 b1 (pc + 1) ls ((t, a) :: (t, a) :: st) S) : zCont p l e R s m args below meth c Q G M0 b0 b1 pc ls ((t, a) :: st) S := by
  intro M H locs lj sj hl hs hH he hf hv h0 h1
  obtain ⟨x, s1, rfl, hx, hs1⟩ := zSt_cons hs
  have hc := zV_cat hx
  rw [if_neg (fun q => ht (Or.inl q))] at hc
  exact lv_dup X.1 X.2.1 hdg hc (hk M H locs lj _ hl ⟨hx, hx, hs1⟩ hH he hf hv h0 h1)
theorem zc_dup2 {t a u b : Int} (X : zCX p s m args meth c G k) (ht : ¬ (t = 1 ∨ t = 9 ∨ u = 1 ∨ u = 9)) (hdg : decode (zb k) pc = .ok (.dup2, 1)) (hk : zCont p l e R s m args below meth c Q G M0 b0 b1 (pc + 1) ls ((t, a) :: (u, b) :: (t, a) :: (u, b) :: st) S) : zCont p l e R s m args below meth c Q G M0 b0 b1 pc ls ((t, a) :: (u, b) :: st) S := by
  intro M H locs lj sj hl hs hH he hf hv h0 h1
  obtain ⟨x, s1, rfl, hx, hs1⟩ := zSt_cons hs
  obtain ⟨y, s2, rfl, hy, hs2⟩ := zSt_cons hs1
  have hc := zV_cat hx
  rw [if_neg (fun q => ht (Or.inl q))] at hc
  have hd := zV_cat hy
  rw [if_neg (fun q => ht (Or.inr (Or.inr (Or.inl q))))] at hd
  exact lv_dup2_11 X.1 X.2.1 hdg hc hd (hk M H locs lj _ hl ⟨hx, hy, hx, hy, hs2⟩ hH he hf hv h0 h1)
theorem zc_goto {d t : Int} (X : zCX p s m args meth c G k) (ht : (pc : Int) + d = t) (h0t : 0 ≤ t) (hdg : decode (zb k) pc = .ok (.goto d, 3)) (hk : zCont p l e R s m args below meth c Q G M0 b0 b1 (t.toNat) ls st S) : zCont p l e R s m args below meth c Q G M0 b0 b1 pc ls st S := by
  intro M H locs lj sj hl hs hH he hf hv h0 h1
  exact lv_goto X.1 X.2.1 hdg (by omega) (hk M H locs lj _ hl hs hH he hf hv h0 h1)
theorem zc_if_eq {a d t : Int} (X : zCX p s m args meth c G k) (ht : (pc : Int) + d = t) (h0t : 0 ≤ t) (hdg : decode (zb k) pc = .ok (.ifCond .eq d, 3)) (hk : a = 0 → zCont p l e R s m args below meth c Q G M0 b0 b1 t.toNat ls st S) (hk2 : ¬ (a = 0) → zCont p l e R s m args below meth c Q G M0 b0 b1 (pc + 3) ls st S) : zCont p l e R s m args below meth c Q G M0 b0 b1 pc ls ((0, a) :: st) S := by
  intro M H locs lj sj hl hs hH he hf hv h0 h1
  obtain ⟨x, s1, rfl, hx, hs1⟩ := zSt_cons hs
  obtain ⟨i, rfl, rfl⟩ := zV_int hx
  exact lv_if_eq (tgt := t.toNat) X.1 X.2.1 hdg (by omega) (fun q => (hk ((ez i).mp q) M H locs lj _ hl hs1 hH he hf hv h0 h1)) (fun q => (hk2 (fun z => q ((ez i).mpr z)) M H locs lj _ hl hs1 hH he hf hv h0 h1))
theorem zc_if_ne {a d t : Int} (X : zCX p s m args meth c G k) (ht : (pc : Int) + d = t) (h0t : 0 ≤ t) (hdg : decode (zb k) pc = .ok (.ifCond .ne d, 3)) (hk : a ≠ 0 → zCont p l e R s m args below meth c Q G M0 b0 b1 t.toNat ls st S) (hk2 : ¬ (a ≠ 0) → zCont p l e R s m args below meth c Q G M0 b0 b1 (pc + 3) ls st S) : zCont p l e R s m args below meth c Q G M0 b0 b1 pc ls ((0, a) :: st) S := by
  intro M H locs lj sj hl hs hH he hf hv h0 h1
  obtain ⟨x, s1, rfl, hx, hs1⟩ := zSt_cons hs
  obtain ⟨i, rfl, rfl⟩ := zV_int hx
  exact lv_if_ne (tgt := t.toNat) X.1 X.2.1 hdg (by omega) (fun q => (hk (fun z => q ((ez i).mpr z)) M H locs lj _ hl hs1 hH he hf hv h0 h1)) (fun q => (hk2 (fun z => z ((ez i).mp q)) M H locs lj _ hl hs1 hH he hf hv h0 h1))
theorem zc_if_lt {a d t : Int} (X : zCX p s m args meth c G k) (ht : (pc : Int) + d = t) (h0t : 0 ≤ t) (hdg : decode (zb k) pc = .ok (.ifCond .lt d, 3)) (hk : a < 0 → zCont p l e R s m args below meth c Q G M0 b0 b1 t.toNat ls st S) (hk2 : ¬ (a < 0) → zCont p l e R s m args below meth c Q G M0 b0 b1 (pc + 3) ls st S) : zCont p l e R s m args below meth c Q G M0 b0 b1 pc ls ((0, a) :: st) S := by
  intro M H locs lj sj hl hs hH he hf hv h0 h1
  obtain ⟨x, s1, rfl, hx, hs1⟩ := zSt_cons hs
  obtain ⟨i, rfl, rfl⟩ := zV_int hx
  exact lv_if_lt (tgt := t.toNat) X.1 X.2.1 hdg (by omega) (fun q => (hk ((lz i).mp q) M H locs lj _ hl hs1 hH he hf hv h0 h1)) (fun q => (hk2 (fun z => q ((lz i).mpr z)) M H locs lj _ hl hs1 hH he hf hv h0 h1))
theorem zc_if_ge {a d t : Int} (X : zCX p s m args meth c G k) (ht : (pc : Int) + d = t) (h0t : 0 ≤ t) (hdg : decode (zb k) pc = .ok (.ifCond .ge d, 3)) (hk : 0 ≤ a → zCont p l e R s m args below meth c Q G M0 b0 b1 t.toNat ls st S) (hk2 : ¬ (0 ≤ a) → zCont p l e R s m args below meth c Q G M0 b0 b1 (pc + 3) ls st S) : zCont p l e R s m args below meth c Q G M0 b0 b1 pc ls ((0, a) :: st) S := by
  intro M H locs lj sj hl hs hH he hf hv h0 h1
  obtain ⟨x, s1, rfl, hx, hs1⟩ := zSt_cons hs
  obtain ⟨i, rfl, rfl⟩ := zV_int hx
  exact lv_if_ge (tgt := t.toNat) X.1 X.2.1 hdg (by omega) (fun q => (hk ((zl i).mp q) M H locs lj _ hl hs1 hH he hf hv h0 h1)) (fun q => (hk2 (fun z => q ((zl i).mpr z)) M H locs lj _ hl hs1 hH he hf hv h0 h1))
theorem zc_if_gt {a d t : Int} (X : zCX p s m args meth c G k) (ht : (pc : Int) + d = t) (h0t : 0 ≤ t) (hdg : decode (zb k) pc = .ok (.ifCond .gt d, 3)) (hk : 0 < a → zCont p l e R s m args below meth c Q G M0 b0 b1 t.toNat ls st S) (hk2 : ¬ (0 < a) → zCont p l e R s m args below meth c Q G M0 b0 b1 (pc + 3) ls st S) : zCont p l e R s m args below meth c Q G M0 b0 b1 pc ls ((0, a) :: st) S := by
  intro M H locs lj sj hl hs hH he hf hv h0 h1
  obtain ⟨x, s1, rfl, hx, hs1⟩ := zSt_cons hs
  obtain ⟨i, rfl, rfl⟩ := zV_int hx
  exact lv_if_gt (tgt := t.toNat) X.1 X.2.1 hdg (by omega) (fun q => (hk ((zlt i).mp q) M H locs lj _ hl hs1 hH he hf hv h0 h1)) (fun q => (hk2 (fun z => q ((zlt i).mpr z)) M H locs lj _ hl hs1 hH he hf hv h0 h1))
theorem zc_if_le {a d t : Int} (X : zCX p s m args meth c G k) (ht : (pc : Int) + d = t) (h0t : 0 ≤ t) (hdg : decode (zb k) pc = .ok (.ifCond .le d, 3)) (hk : a ≤ 0 → zCont p l e R s m args below meth c Q G M0 b0 b1 t.toNat ls st S) (hk2 : ¬ (a ≤ 0) → zCont p l e R s m args below meth c Q G M0 b0 b1 (pc + 3) ls st S) : zCont p l e R s m args below meth c Q G M0 b0 b1 pc ls ((0, a) :: st) S := by
  intro M H locs lj sj hl hs hH he hf hv h0 h1
  obtain ⟨x, s1, rfl, hx, hs1⟩ := zSt_cons hs
  obtain ⟨i, rfl, rfl⟩ := zV_int hx
  exact lv_if_le (tgt := t.toNat) X.1 X.2.1 hdg (by omega) (fun q => (hk ((lez i).mp q) M H locs lj _ hl hs1 hH he hf hv h0 h1)) (fun q => (hk2 (fun z => q ((lez i).mpr z)) M H locs lj _ hl hs1 hH he hf hv h0 h1))
theorem zc_ic_eq {a b d t : Int} (X : zCX p s m args meth c G k) (ht : (pc : Int) + d = t) (h0t : 0 ≤ t) (hdg : decode (zb k) pc = .ok (.if_icmp .eq d, 3)) (hk : a = b → zCont p l e R s m args below meth c Q G M0 b0 b1 t.toNat ls st S) (hk2 : ¬ (a = b) → zCont p l e R s m args below meth c Q G M0 b0 b1 (pc + 3) ls st S) : zCont p l e R s m args below meth c Q G M0 b0 b1 pc ls ((0, b) :: (0, a) :: st) S := by
  intro M H locs lj sj hl hs hH he hf hv h0 h1
  obtain ⟨y, s1, rfl, hy, hs1⟩ := zSt_cons hs
  obtain ⟨x, s2, rfl, hx, hs2⟩ := zSt_cons hs1
  obtain ⟨j, rfl, rfl⟩ := zV_int hy
  obtain ⟨i, rfl, rfl⟩ := zV_int hx
  exact lv_icmp_eq (tgt := t.toNat) X.1 X.2.1 hdg (by omega) (fun q => (hk ((ee i j).mp q) M H locs lj _ hl hs2 hH he hf hv h0 h1)) (fun q => (hk2 (fun z => q ((ee i j).mpr z)) M H locs lj _ hl hs2 hH he hf hv h0 h1))
theorem zc_ic_ne {a b d t : Int} (X : zCX p s m args meth c G k) (ht : (pc : Int) + d = t) (h0t : 0 ≤ t) (hdg : decode (zb k) pc = .ok (.if_icmp .ne d, 3)) (hk : a ≠ b → zCont p l e R s m args below meth c Q G M0 b0 b1 t.toNat ls st S) (hk2 : ¬ (a ≠ b) → zCont p l e R s m args below meth c Q G M0 b0 b1 (pc + 3) ls st S) : zCont p l e R s m args below meth c Q G M0 b0 b1 pc ls ((0, b) :: (0, a) :: st) S := by
  intro M H locs lj sj hl hs hH he hf hv h0 h1
  obtain ⟨y, s1, rfl, hy, hs1⟩ := zSt_cons hs
  obtain ⟨x, s2, rfl, hx, hs2⟩ := zSt_cons hs1
  obtain ⟨j, rfl, rfl⟩ := zV_int hy
  obtain ⟨i, rfl, rfl⟩ := zV_int hx
  exact lv_icmp_ne (tgt := t.toNat) X.1 X.2.1 hdg (by omega) (fun q => (hk (fun z => q ((ee i j).mpr z)) M H locs lj _ hl hs2 hH he hf hv h0 h1)) (fun q => (hk2 (fun z => z ((ee i j).mp q)) M H locs lj _ hl hs2 hH he hf hv h0 h1))
theorem zc_ic_lt {a b d t : Int} (X : zCX p s m args meth c G k) (ht : (pc : Int) + d = t) (h0t : 0 ≤ t) (hdg : decode (zb k) pc = .ok (.if_icmp .lt d, 3)) (hk : a < b → zCont p l e R s m args below meth c Q G M0 b0 b1 t.toNat ls st S) (hk2 : ¬ (a < b) → zCont p l e R s m args below meth c Q G M0 b0 b1 (pc + 3) ls st S) : zCont p l e R s m args below meth c Q G M0 b0 b1 pc ls ((0, b) :: (0, a) :: st) S := by
  intro M H locs lj sj hl hs hH he hf hv h0 h1
  obtain ⟨y, s1, rfl, hy, hs1⟩ := zSt_cons hs
  obtain ⟨x, s2, rfl, hx, hs2⟩ := zSt_cons hs1
  obtain ⟨j, rfl, rfl⟩ := zV_int hy
  obtain ⟨i, rfl, rfl⟩ := zV_int hx
  exact lv_icmp_lt (tgt := t.toNat) X.1 X.2.1 hdg (by omega) (fun q => (hk ((ll i j).mp q) M H locs lj _ hl hs2 hH he hf hv h0 h1)) (fun q => (hk2 (fun z => q ((ll i j).mpr z)) M H locs lj _ hl hs2 hH he hf hv h0 h1))
theorem zc_ic_ge {a b d t : Int} (X : zCX p s m args meth c G k) (ht : (pc : Int) + d = t) (h0t : 0 ≤ t) (hdg : decode (zb k) pc = .ok (.if_icmp .ge d, 3)) (hk : b ≤ a → zCont p l e R s m args below meth c Q G M0 b0 b1 t.toNat ls st S) (hk2 : ¬ (b ≤ a) → zCont p l e R s m args below meth c Q G M0 b0 b1 (pc + 3) ls st S) : zCont p l e R s m args below meth c Q G M0 b0 b1 pc ls ((0, b) :: (0, a) :: st) S := by
  intro M H locs lj sj hl hs hH he hf hv h0 h1
  obtain ⟨y, s1, rfl, hy, hs1⟩ := zSt_cons hs
  obtain ⟨x, s2, rfl, hx, hs2⟩ := zSt_cons hs1
  obtain ⟨j, rfl, rfl⟩ := zV_int hy
  obtain ⟨i, rfl, rfl⟩ := zV_int hx
  exact lv_icmp_ge (tgt := t.toNat) X.1 X.2.1 hdg (by omega) (fun q => (hk ((le j i).mp q) M H locs lj _ hl hs2 hH he hf hv h0 h1)) (fun q => (hk2 (fun z => q ((le j i).mpr z)) M H locs lj _ hl hs2 hH he hf hv h0 h1))
theorem zc_ic_gt {a b d t : Int} (X : zCX p s m args meth c G k) (ht : (pc : Int) + d = t) (h0t : 0 ≤ t) (hdg : decode (zb k) pc = .ok (.if_icmp .gt d, 3)) (hk : b < a → zCont p l e R s m args below meth c Q G M0 b0 b1 t.toNat ls st S) (hk2 : ¬ (b < a) → zCont p l e R s m args below meth c Q G M0 b0 b1 (pc + 3) ls st S) : zCont p l e R s m args below meth c Q G M0 b0 b1 pc ls ((0, b) :: (0, a) :: st) S := by
  intro M H locs lj sj hl hs hH he hf hv h0 h1
  obtain ⟨y, s1, rfl, hy, hs1⟩ := zSt_cons hs
  obtain ⟨x, s2, rfl, hx, hs2⟩ := zSt_cons hs1
  obtain ⟨j, rfl, rfl⟩ := zV_int hy
  obtain ⟨i, rfl, rfl⟩ := zV_int hx
  exact lv_icmp_gt (tgt := t.toNat) X.1 X.2.1 hdg (by omega) (fun q => (hk ((ll j i).mp q) M H locs lj _ hl hs2 hH he hf hv h0 h1)) (fun q => (hk2 (fun z => q ((ll j i).mpr z)) M H locs lj _ hl hs2 hH he hf hv h0 h1))
theorem zc_ic_le {a b d t : Int} (X : zCX p s m args meth c G k) (ht : (pc : Int) + d = t) (h0t : 0 ≤ t) (hdg : decode (zb k) pc = .ok (.if_icmp .le d, 3)) (hk : a ≤ b → zCont p l e R s m args below meth c Q G M0 b0 b1 t.toNat ls st S) (hk2 : ¬ (a ≤ b) → zCont p l e R s m args below meth c Q G M0 b0 b1 (pc + 3) ls st S) : zCont p l e R s m args below meth c Q G M0 b0 b1 pc ls ((0, b) :: (0, a) :: st) S := by
  intro M H locs lj sj hl hs hH he hf hv h0 h1
  obtain ⟨y, s1, rfl, hy, hs1⟩ := zSt_cons hs
  obtain ⟨x, s2, rfl, hx, hs2⟩ := zSt_cons hs1
  obtain ⟨j, rfl, rfl⟩ := zV_int hy
  obtain ⟨i, rfl, rfl⟩ := zV_int hx
  exact lv_icmp_le (tgt := t.toNat) X.1 X.2.1 hdg (by omega) (fun q => (hk ((le i j).mp q) M H locs lj _ hl hs2 hH he hf hv h0 h1)) (fun q => (hk2 (fun z => q ((le i j).mpr z)) M H locs lj _ hl hs2 hH he hf hv h0 h1))
theorem zc_ifnull {u a d t : Int} (X : zCX p s m args meth c G k) (hu : 10 ≤ u) (ht : (pc : Int) + d = t) (h0t : 0 ≤ t) (hdg : decode (zb k) pc = .ok (.ifnull d, 3)) (hk : a = 0 → zCont p l e R s m args below meth c Q G M0 b0 b1 t.toNat ls st S) (hk2 : ¬ (a = 0) → zCont p l e R s m args below meth c Q G M0 b0 b1 (pc + 3) ls st S) : zCont p l e R s m args below meth c Q G M0 b0 b1 pc ls ((u, a) :: st) S := by
  intro M H locs lj sj hl hs hH he hf hv h0 h1
  obtain ⟨x, s1, rfl, hx, hs1⟩ := zSt_cons hs
  rcases zV_ref hx hu with ⟨q, rfl⟩ | ⟨q, -, -, rfl⟩
  · exact lv_ifnullN (tgt := t.toNat) X.1 X.2.1 hdg (by omega) (hk q M H locs lj _ hl hs1 hH he hf hv h0 h1)
  · exact lv_ifnull X.1 X.2.1 hdg (hk2 q M H locs lj _ hl hs1 hH he hf hv h0 h1)
theorem zc_ifnonnull {u a d t : Int} (X : zCX p s m args meth c G k) (hu : 10 ≤ u) (ht : (pc : Int) + d = t) (h0t : 0 ≤ t) (hdg : decode (zb k) pc = .ok (.ifnonnull d, 3)) (hk : a ≠ 0 → zCont p l e R s m args below meth c Q G M0 b0 b1 t.toNat ls st S) (hk2 : ¬ (a ≠ 0) → zCont p l e R s m args below meth c Q G M0 b0 b1 (pc + 3) ls st S) : zCont p l e R s m args below meth c Q G M0 b0 b1 pc ls ((u, a) :: st) S := by
  intro M H locs lj sj hl hs hH he hf hv h0 h1
  obtain ⟨x, s1, rfl, hx, hs1⟩ := zSt_cons hs
  rcases zV_ref hx hu with ⟨q, rfl⟩ | ⟨q, -, -, rfl⟩
  · exact lv_ifnonnullN X.1 X.2.1 hdg (hk2 (fun z => z q) M H locs lj _ hl hs1 hH he hf hv h0 h1)
  · exact lv_ifnonnull (tgt := t.toNat) X.1 X.2.1 hdg (by omega) (hk q M H locs lj _ hl hs1 hH he hf hv h0 h1)
theorem zc_ac_eq {u a b d t : Int} (X : zCX p s m args meth c G k) (hu : 10 ≤ u) (ht : (pc : Int) + d = t) (h0t : 0 ≤ t) (hdg : decode (zb k) pc = .ok (.if_acmp .eq d, 3)) (hk : a = b → zCont p l e R s m args below meth c Q G M0 b0 b1 t.toNat ls st S) (hk2 : ¬ (a = b) → zCont p l e R s m args below meth c Q G M0 b0 b1 (pc + 3) ls st S) : zCont p l e R s m args below meth c Q G M0 b0 b1 pc ls ((u, b) :: (u, a) :: st) S := by
  intro M H locs lj sj hl hs hH he hf hv h0 h1
  obtain ⟨y, s1, rfl, hy, hs1⟩ := zSt_cons hs
  obtain ⟨x, s2, rfl, hx, hs2⟩ := zSt_cons hs1
  obtain ⟨ra, rfl, hra⟩ := zrf hx hu
  obtain ⟨rb, rfl, hrb⟩ := zrf hy hu
  have hab : ra = rb ↔ a = b := zrf_eq hH hra hrb
  exact lv_acmp_eq (tgt := t.toNat) X.1 X.2.1 hdg (by omega) (fun q => (hk (hab.mp q) M H locs lj _ hl hs2 hH he hf hv h0 h1)) (fun q => (hk2 (fun z => q (hab.mpr z)) M H locs lj _ hl hs2 hH he hf hv h0 h1))
theorem zc_ac_ne {u a b d t : Int} (X : zCX p s m args meth c G k) (hu : 10 ≤ u) (ht : (pc : Int) + d = t) (h0t : 0 ≤ t) (hdg : decode (zb k) pc = .ok (.if_acmp .ne d, 3)) (hk : a ≠ b → zCont p l e R s m args below meth c Q G M0 b0 b1 t.toNat ls st S) (hk2 : ¬ (a ≠ b) → zCont p l e R s m args below meth c Q G M0 b0 b1 (pc + 3) ls st S) : zCont p l e R s m args below meth c Q G M0 b0 b1 pc ls ((u, b) :: (u, a) :: st) S := by
  intro M H locs lj sj hl hs hH he hf hv h0 h1
  obtain ⟨y, s1, rfl, hy, hs1⟩ := zSt_cons hs
  obtain ⟨x, s2, rfl, hx, hs2⟩ := zSt_cons hs1
  obtain ⟨ra, rfl, hra⟩ := zrf hx hu
  obtain ⟨rb, rfl, hrb⟩ := zrf hy hu
  have hab : ra = rb ↔ a = b := zrf_eq hH hra hrb
  exact lv_acmp_ne (tgt := t.toNat) X.1 X.2.1 hdg (by omega) (fun q => (hk (fun z => q (hab.mpr z)) M H locs lj _ hl hs2 hH he hf hv h0 h1)) (fun q => (hk2 (fun z => z (hab.mp q)) M H locs lj _ hl hs2 hH he hf hv h0 h1))
theorem zc_tsw {a d lo hi : Int} {offs : Array Int} {len : Nat} {t0 : Int} {ts : List Int} (X : zCX p s m args meth c G k) (hdg : decode (zb k) pc = .ok (.tableswitch d lo hi offs, len)) (ht0 : (pc : Int) + d = t0) (h00 : 0 ≤ t0) (hts : offs.toList.map (fun o => (pc : Int) + o) = ts) (hpos : ∀ t ∈ ts, 0 ≤ t) (hsz : (offs.size : Int) = hi - lo + 1) (hk : zCont p l e R s m args below meth c Q G M0 b0 b1 (ztab t0 lo hi ts a).toNat ls st S) : zCont p l e R s m args below meth c Q G M0 b0 b1 pc ls ((0, a) :: st) S := by
  intro M H locs lj sj hl hs hH he hf hv h0 h1
  obtain ⟨x, s1, rfl, hx, hs1⟩ := zSt_cons hs
  obtain ⟨i, rfl, rfl⟩ := zV_int hx
  have hk := hk M H locs lj _ hl hs1 hH he hf hv h0 h1
  unfold ztab at hk
  by_cases hr : i.toInt < lo ∨ hi < i.toInt
  · rw [if_pos hr] at hk
    exact lv_tableOut (tgt := t0.toNat) X.1 X.2.1 hdg hr (by omega) hk
  · rw [if_neg hr] at hk
    have hlt : (i.toInt - lo).toNat < offs.size := by omega
    have ho : offs[(i.toInt - lo).toNat]? = some offs[(i.toInt - lo).toNat] := Array.getElem?_eq_getElem hlt
    have h2 : ts[(i.toInt - lo).toNat]? = some ((pc : Int) + offs[(i.toInt - lo).toNat]) := by
      rw [← hts, List.getElem?_map, Array.getElem?_toList, ho]; rfl
    have h3 : ts.getD (i.toInt - lo).toNat t0 = (pc : Int) + offs[(i.toInt - lo).toNat] := by rw [List.getD_eq_getElem?_getD, h2]; rfl
    have h4 := hpos _ (List.mem_of_getElem? h2)
    rw [h3] at hk
    exact lv_tableIn (tgt := ((pc : Int) + offs[(i.toInt - lo).toNat]).toNat) X.1 X.2.1 hdg (fun q => hr (Or.inl q)) (fun q => hr (Or.inr q)) ho (by omega) hk
end Z13
