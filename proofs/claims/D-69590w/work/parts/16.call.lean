/-! SOUNDNESS 6: ordinals, arraycopy, calls -/
def zyO : MethodName := ⟨"java/lang/Enum", "ordinal", "()I"⟩
theorem zord_met (l : Launch) (b : Nat) (v : Int32) (iO : Nat) : Met l zyO (ws_ zyO prog_32_method_2_code 1 (some .int)) ({ frames := 0, cells := 0, slots := 0, locals := 0 }) (va_Pc [.ref b] (fun U => zOrd U iO ∧ ∃ cell : Cell, U.heap[b]? = some cell ∧ cell.vm ≠ .unknown ∧ cell.slots[iO]? = some (.int v))) (fun _ st o t => o = .returned (some (.int v)) ∧ t.heap = st.heap) 0 0 (fun _ => False) := by
  refine va_MetF (cc := prog_32_method_2_code) (maxL := 1) (ret := some .int) (by decide +kernel) rfl ?_
  intro p e s m args below meth c s₁ B hml hv
  obtain ⟨rfl, ⟨cf, kf, fi, fd, hi, hst, hsl⟩, cell, c1, c2, c3⟩ := hv
  have hx := B.exec
  have hb := B.bytes
  have hr := B.returns
  have hts := atoms_spec (ws := ws_ zyO prog_32_method_2_code 1 (some .int)) B.pre
  have hts : ∀ w ∈ lw_all, w.before _ s = true := fun w h => hts w (List.mem_cons_of_mem _ h)
  have hown : s.vm.findClass "java/lang/Enum" = some m.cls := findClass_of_methodNamed B.named
  have hlocks := B.notSynchronized
  have hl := lv_entry ([.ref b]) (n := 1) (Nat.le_of_ble_eq_true rfl)
  rw [lg_entry_eq]
  generalize (lg_sl ([.ref b]) ++ List.replicate (1 - (lg_sl ([.ref b])).length) Slot.unset).toArray = ls at hl ⊢
  have hl : lv_has ls 1 [(0, .ref b)] := hl
  refine lv_aload_n hx hb (show decode prog_32_method_2_code 0 = .ok (.aload_n 0, 1) by decide +kernel) rfl (lv_at hl 0 rfl) ?_
  refine W.getf hx hb hown (hts _ (lw_g (lw_at lw_m14 143 rfl) rfl)) hi hst c1 c2 (v := .int v) (by rw [hsl]; exact c3) rfl rfl (show decode prog_32_method_2_code 1 = .ok (.getfield 7, 3) by decide +kernel) ?_
  exact W.iret hx hb hr (fun t ht _ => ⟨rfl, ht⟩) (fun q h => by cases h) (show decode prog_32_method_2_code 4 = .ok (.ireturn, 1) by decide +kernel)
section Z16
variable {p : Program} {l : Launch} {e : Env} {R : Room} {s : State} {m : MethodId} {args : Array Value} {below : List Frame} {meth : Method} {c : Code} {Q : State → Prop} {G : ZG} {M0 : ZM} {b0 b1 : Int} {k pc : Nat} {ls st : List AV} {S : Sto}
theorem zrun {H : Heap} {locs : List Loc} {cells slots mc ms : Nat} {lj : Array Slot} {st0 rest : List Value} {Qa : State → Outcome → State → Prop} {free : Addr → Prop} (hr : va_Run p l e R s m args below meth c H locs cells slots mc ms (F0 m pc lj st0) rest Qa free)
    (kk : ∀ (v : Option Value) (st₀ t : State) (L : List Loc), st₀.heap = H → (∀ q ∈ L, free q.base) → Qa st₀ (.returned v) t → s.vm.Alike t.vm → W p l e R s m args below meth c t.heap (locs ++ L) (cells + mc) (slots + ms) Q (F0 m (pc + 3) lj (v.toList ++ rest))) : W p l e R s m args below meth c H locs cells slots Q (F0 m pc lj st0) := by
  intro T hT X
  obtain ⟨v, st₀, t, T', L, h0, X', hL, e1, e2, hq, st⟩ := hr T hT X
  obtain ⟨t2, a1, b1⟩ := kk v st₀ t L h0 hL hq (by rw [← e2]; exact X'.warmed.alike) T' e1 X'
  exact ⟨t2, st t2 a1, b1⟩
theorem zlsz {M : ZM} {lj : Array Slot} (hl : zL M ls lj) : lj.size = ls.length := by
  obtain ⟨lv, q1, -⟩ := hl
  exact q1.1
theorem zc_ord {idx : Nat} {ct a : Int} {C : String} (X : zCX p s m args meth c G k) (hm : (zon k, idx, ct, C) ∈ zlr) (hC : (ct = 37 ∧ C = "CoinScripts$TermCodec$Kind") ∨ (ct = 40 ∧ C = "CoinScripts$CekMachine$Op")) (ha : a % 512 = ct) (hst : st.length ≤ 4) (hlen : ls.length = zml k) (hfr : 1 ≤ R.frames) (hlo : 20 ≤ R.locals) (hR1 : S 0 0 - b0 ≤ R.cells) (hR2 : S 0 1 - b1 ≤ R.slots) (hdg : decode (zb k) pc = .ok (.invokevirtual idx, 3)) (hk : zCont p l e R s m args below meth c Q G M0 b0 b1 (pc + 3) ls ((0, a / 512) :: st) S) : zCont p l e R s m args below meth c Q G M0 b0 b1 pc ls ((ct, a) :: st) S := by
  intro M H locs lj sj hl hs hH he hf hv h0 h1
  obtain ⟨x, s2, rfl, hx, hs1⟩ := zSt_cons hs
  have hct : 10 ≤ ct := by rcases hC with ⟨q, -⟩ | ⟨q, -⟩ <;> omega
  obtain ⟨-, hMa, rfl⟩ := zV_obj hx hct (by intro z; rw [z] at ha; omega)
  have hcat := zSt_cat hs1
  have hEn : zEn G M a H := by
    rcases hH.1 a hMa with ⟨q, cell, g1, -⟩ | ⟨ty, n0, et, cell, g1, -⟩ | g1
    · rw [ha] at g1
      rcases hC with ⟨z, -⟩ | ⟨z, -⟩ <;> subst z
      · exact absurd (g1.symm.trans (show zcq 37 = none from rfl)) (by simp)
      · exact absurd (g1.symm.trans (show zcq 40 = none from rfl)) (by simp)
    · have := zat_tag g1
      rcases hC with ⟨z, -⟩ | ⟨z, -⟩ <;> omega
    · exact g1
  obtain ⟨-, e1, e2, cell, g1, g2, g3, g4, g5⟩ := hEn
  have hKn := X.2.2.2.2.2.2.2.2.1
  have hOrd := hKn.2.2.2.2.2.1
  have hcls : s.vm.findClass C = some cell.cls := by
    rw [g2, ha]
    rcases hC with ⟨z, z2⟩ | ⟨z, z2⟩ <;> subst z <;> subst z2
    · exact hKn.2.2.2.2.2.2.1
    · exact hKn.2.2.2.2.2.2.2
  have hw1 := zlr_ok _ hm
  have hgood : GoodIn lw_all (va_wsU (zcn (zon k)) idx C "java/lang/Enum" ⟨C, "ordinal", "()I"⟩ zyO (ws_ zyO prog_32_method_2_code 1 (some .int))) := by
    refine lw_app ?_ (lw_meth (lw_g (lw_at lw_m5 105 rfl) rfl))
    intro w hw
    simp only [List.mem_cons, List.not_mem_nil, or_false] at hw
    rcases hw with q | q | q | q | q
    · rw [q]; exact hw1
    · rw [q]
      rcases hC with ⟨-, z2⟩ | ⟨-, z2⟩ <;> subst z2
      · exact lw_g (lw_at lw_m5 101 rfl) rfl
      · exact lw_g (lw_at lw_m8 131 rfl) rfl
    · rw [q]
      rcases hC with ⟨-, z2⟩ | ⟨-, z2⟩ <;> subst z2
      · exact lw_g (lw_at lw_m5 103 rfl) rfl
      · exact lw_g (lw_at lw_m8 132 rfl) rfl
    · rw [q]; exact lw_g (lw_at lw_m5 104 rfl) rfl
    · rw [q]; exact lw_g (lw_at lw_m1 28 rfl) rfl
  have hrun := va_runU (meth := meth) (l := l) (e := e) (R := R) (below := below) (locs := locs) (cells := (S 0 0 - b0).toNat) (slots := (S 0 1 - b1).toNat) (H := H) (b := M.1 a) (As := []) (rest := s2) (g := F0 m pc lj (.ref (M.1 a) :: s2)) (C := C) (owner := "java/lang/Enum") ⟨X.1, X.2.1, X.2.2.1, X.2.2.2.1, X.2.2.2.2.1⟩ (zord_met l (M.1 a) (Int32.ofInt (a / 512)) G.2.2.2.2) (va_cwU 0 X.2.2.2.2.1 hgood rfl rfl rfl rfl ⟨by decide, by decide, show (parseMethodDescriptor "()I").map (fun d => d.parameters.length) = some 0 by decide +kernel⟩ ⟨by omega, by show 8 + (1 + 11) + 0 ≤ _; omega⟩)
    ⟨fun a' U g mk q => ⟨q.1, q.2.1.moved (u := U) (E := U.calling g mk a') (Vm.Alike.refl U.vm), q.2.2⟩, ⟨cell, g1, g4, hcls⟩, fun U hU hW => ⟨rfl, hOrd.moved hW.alike, cell, by rw [hU]; exact g1, g3, g5⟩⟩ rfl rfl ((zlsz hl).trans hlen) rfl (lv_room (by omega)) hdg ⟨by omega, by omega⟩
  refine zrun hrun ?_
  intro v st₀ t L z0 zL' zq zvm
  obtain ⟨zv, zh⟩ := zq
  cases zv
  have hL : L = [] := by
    cases L with
    | nil => rfl
    | cons y ys => exact (zL' y List.mem_cons_self).elim
  subst hL
  rw [zh, z0, List.append_nil]
  exact hk M H locs lj _ hl ⟨Or.inl ⟨rfl, _, rfl, by rw [Int32.toInt_ofInt_of_le (by omega) (by omega)]⟩, hs1⟩ hH he hf hv h0 h1
theorem zc_acpy {idx : Nat} {t1 t2 n0 n1 sa da sp dp n : Int} (X : zCX p s m args meth c G k) (hm : (zon k, idx) ∈ zla) (hq0 : zat t1 = some (.byte, n0, 0)) (hq1 : zat t2 = some (.byte, n1, 0)) (hne : t1 ≠ t2) (hmut : zmut t2) (ha0 : sa % 512 = t1) (ha1 : da % 512 = t2) (hn : 0 ≤ n) (hsp : 0 ≤ sp) (hdp : 0 ≤ dp) (h4 : sp + n ≤ zlen n0 sa) (h5 : dp + n ≤ zlen n1 da) (hst : st.length ≤ 4) (hlen : ls.length = zml k) (hfr : 1 ≤ R.frames) (hlo : 30 ≤ R.locals) (hdg : decode (zb k) pc = .ok (.invokestatic idx, 3))
    (hk : zCont p l e R s m args below meth c Q G M0 b0 b1 (pc + 3) ls st (zcpy S sa sp da dp n)) : zCont p l e R s m args below meth c Q G M0 b0 b1 pc ls ((0, n) :: (0, dp) :: (t2, da) :: (0, sp) :: (t1, sa) :: st) S := by
  intro M H locs lj sj hl hs hH he hf hv h0 h1
  obtain ⟨x1, r1, rfl, hx1, hs1⟩ := zSt_cons hs
  obtain ⟨x2, r2, rfl, hx2, hs2⟩ := zSt_cons hs1
  obtain ⟨x3, r3, rfl, hx3, hs3⟩ := zSt_cons hs2
  obtain ⟨x4, r4, rfl, hx4, hs4⟩ := zSt_cons hs3
  obtain ⟨x5, r5, rfl, hx5, hs5⟩ := zSt_cons hs4
  obtain ⟨n', rfl, rfl⟩ := zV_int hx1
  obtain ⟨dp', rfl, rfl⟩ := zV_int hx2
  obtain ⟨sp', rfl, rfl⟩ := zV_int hx4
  have ht0 := zat_tag hq0
  have ht1 := zat_tag hq1
  obtain ⟨-, hM1, rfl⟩ := zV_obj hx3 (by omega) (by intro z; rw [z] at ha1; omega)
  obtain ⟨-, hM0', rfl⟩ := zV_obj hx5 (by omega) (by intro z; rw [z] at ha0; omega)
  obtain ⟨cs, c1, c2, c3, c4, c5, c6, c7⟩ := zarr X hH hM0' ha0 hq0
  obtain ⟨cd, d1, d2, d3, d4, d5, d6, d7⟩ := zarr X hH hM1 ha1 hq1
  obtain ⟨ks, ck1, ck2, ck3⟩ := c3.2
  obtain ⟨kd, dk1, dk2, dk3⟩ := d3.2
  have hcat := zSt_cat hs5
  have hG1 : G.1 ≤ M.1 da := (hH.2.2.1 da hM1 (by rw [ha1]; exact hmut)).1
  have hn0 : (0 : Int) ≠ da := by intro z; rw [← z] at ha1; omega
  have en : (n'.toNatClampNeg : Int) = n'.toInt := by have : n'.toNatClampNeg = n'.toInt.toNat := rfl; omega
  have es : (sp'.toNatClampNeg : Int) = sp'.toInt := by have : sp'.toNatClampNeg = sp'.toInt.toNat := rfl; omega
  have ed : (dp'.toNatClampNeg : Int) = dp'.toInt := by have : dp'.toNatClampNeg = dp'.toInt.toNat := rfl; omega
  intro T hT Z
  have hget : ∀ i, i < n'.toNatClampNeg → ∃ x, cs.slots.getD (sp'.toNatClampNeg + i) .null = x ∧ zV M (0, S sa ((sp'.toNatClampNeg + i : Nat) : Int)) x ∧ fits .byte x = true := by
    intro i hi
    obtain ⟨x, y1, y2, y3⟩ := c7 (sp'.toNatClampNeg + i) (by omega)
    exact ⟨x, by rw [Array.getD_eq_getD_getElem?, y1]; rfl, y2, y3⟩
  obtain ⟨vm', Z', step⟩ := Z.arraycopy X.1 X.2.2.2.1 (X.2.2.2.2.1 _ (zla_ok _ hm)) (X.2.2.2.2.1 _ (lw_g (lw_at lw_m8 162 rfl) rfl)) (X.2.2.2.2.1 _ (lw_g (lw_at lw_m8 161 rfl) rfl)) (X.2.2.2.2.1 _ (lw_g (lw_at lw_m1 40 rfl) rfl)) (src := M.1 sa) (dst := M.1 da) (cs := cs) (cd := cd) (srcPos := sp') (destPos := dp') (n := n') (by rw [hT]; exact c1) (by rw [hT]; exact d1) c3.1 d3.1 c4 d4 ck1 dk1 ck3 dk3 (by decide) (fun z => by have := (lz sp').mp z; omega) (fun z => by have := (lz dp').mp z; omega) (fun z => by have := (lz n').mp z; omega) (by omega) (by omega)
    (fun vm₁ _ i hi => by
      obtain ⟨x, y1, y2, y3⟩ := hget i hi
      rw [y1]
      refine ⟨y3, ?_⟩
      obtain ⟨w, rfl, -⟩ := zV_int y2
      exact trivial)
    (g := F0 m pc lj (.int n' :: .int dp' :: .ref (M.1 da) :: .int sp' :: .ref (M.1 sa) :: r5)) rfl (by rw [show (F0 m pc lj _).locals = lj from rfl, zlsz hl, hlen, X.2.2.1]) (rest := r5) rfl (by rw [X.2.1]; exact hdg) hfr (by
      have hw : nativeFrameWords "java/lang/System" "arraycopy" 5 = 7 := (by decide +kernel)
      show 2 * 0 + _ + (nativeFrameWords "java/lang/System" "arraycopy" 5 + 11) ≤ _
      omega)
  have hslen : (cs.stretch sp'.toNatClampNeg n'.toNatClampNeg).length = n'.toNatClampNeg := by simp [Cell.stretch]
  have hcp : copied cs cd sp' dp' n' = cd.storeRun dp'.toNatClampNeg (cs.stretch sp'.toNatClampNeg n'.toNatClampNeg) := rfl
  obtain ⟨f1, f2, f3, -⟩ := cd.storeRun_facts dp'.toNatClampNeg (cs.stretch sp'.toNatClampNeg n'.toNatClampNeg)
  have hlt : M.1 da < H.size := (Array.getElem?_eq_some_iff.mp d1).1
  have hheap : ((T.setVm vm').setCell (M.1 da) (copied cs cd sp' dp' n')).heap = H.setIfInBounds (M.1 da) (copied cs cd sp' dp' n') := by rw [← hT]; rfl
  have oq : ∀ q : Nat, q ≠ M.1 da → (H.setIfInBounds (M.1 da) (copied cs cd sp' dp' n'))[q]? = H[q]? := fun q hq => by simp [Array.getElem?_setIfInBounds, Ne.symm hq]
  have hR : zHR G M (zcpy S sa sp'.toInt da dp'.toInt n'.toInt) (H.setIfInBounds (M.1 da) (copied cs cd sp' dp' n')) := by
    refine hH.put hM1 (fun b j hb => by unfold zcpy; rw [if_neg (fun z => hb z.1)]) (by simp) oq (Or.inr (Or.inl ⟨.byte, n1, 0, copied cs cd sp' dp' n', by rw [ha1]; exact hq1, by simp [Array.getElem?_setIfInBounds, hlt], by rw [hcp, f1, d2, ha1], by rw [hcp, f2]; exact d4, by rw [hcp, f2]; exact d3.1, by rw [hcp, f3]; exact d5, by rw [hcp, f3]; exact d6, fun j hj => ?_⟩))
    rw [hcp, f3] at hj
    rw [hcp, Cell.storeRun_get _ _ _ _ (by rw [hslen]; omega), hslen]
    by_cases hin : dp'.toNatClampNeg ≤ j ∧ j < dp'.toNatClampNeg + n'.toNatClampNeg
    · rw [if_pos hin]
      obtain ⟨x, y1, y2, y3⟩ := hget (j - dp'.toNatClampNeg) (by omega)
      refine ⟨x, ?_, ?_, y3⟩
      · simp only [Cell.stretch, List.getElem?_map]
        rw [List.getElem?_range (by omega)]
        simp only [Option.map_some]
        rw [y1]
      · unfold zcpy
        rw [if_pos ⟨rfl, by omega, by omega⟩]
        have : sp'.toInt + ((j : Int) - dp'.toInt) = ((sp'.toNatClampNeg + (j - dp'.toNatClampNeg) : Nat) : Int) := by omega
        rw [this]
        exact y2
    · rw [if_neg hin]
      obtain ⟨x, y1, y2, y3⟩ := d7 j hj
      refine ⟨x, y1, ?_, y3⟩
      unfold zcpy
      rw [if_neg (fun z => hin ⟨by omega, by omega⟩)]
      exact y2
  have e00 : ∀ i, zcpy S sa sp'.toInt da dp'.toInt n'.toInt 0 i = S 0 i := fun i => by unfold zcpy; rw [if_neg (fun z => hn0 z.1)]
  have hW := hk M (H.setIfInBounds (M.1 da) (copied cs cd sp' dp' n')) (locs ++ (cs.stretch sp'.toNatClampNeg n'.toNatClampNeg).zipIdx.map fun q => ⟨M.1 da, dp'.toNatClampNeg + q.2⟩) lj r5 hl hs5 hR he
    ⟨by simp; exact hf.1, fun q hq => by rw [oq q (by omega)]; exact hf.2.1 q hq, fun y hy => by
      rcases List.mem_append.mp hy with z | z
      · exact hf.2.2 y z
      · obtain ⟨w, -, hw⟩ := List.mem_map.mp z
        rw [← hw]
        exact hG1⟩ (hv.put hG1 oq) (by rw [e00]; exact h0) (by rw [e00]; exact h1)
  rw [e00, e00] at hW
  obtain ⟨t, a1, b1⟩ := hW _ hheap Z'
  exact ⟨t, step t a1, b1⟩
end Z16
