/-! the contract of the law's coinOf -/
theorem zex_one {C : ZC} {n k : Nat} {i : Ins} {is : List Ins} {ls st ls' st' : List AV} {S S1 : Sto} {x : Sto × AV} (h : zex C n k (i :: is) ls st S = some x) (hc : zcall i = none) (hr : zret i st = none) (hs : zstep i ls st S = some (none, ls', st', S1)) : ∃ n', zex C n' k is ls' st' S1 = some x := by
  cases n with
  | zero => simp [zex] at h
  | succ n =>
    rw [zex, hc] at h
    simp only [hr, hs] at h
    exact ⟨n, h⟩
/-- the shape of a run of the law's coinOf -/
theorem zrun1 {n : Nat} {x a b c o t : Int} (ht : 10 ≤ t) {S S' : Sto} {r : AV} (h : zex Cs n 1 (Cs 1 0) (zloc 6 [(11, x), (0, a), (0, b), (0, c), (t, o)]) [] S = some (S', r)) :
    ∃ (n' : Nat) (S1 : Sto) (r1 : AV), zex Cs n' 44 (Cs 44 0) (zloc 5 [(11, x), (0, a), (0, b), (0, c)]) [] S = some (S1, r1) ∧ x % 512 = 11 ∧
      ((r1.1 = 8 ∧ zex Cs n' 1 (Cs 1 16) [(11, x), (0, a), (0, b), (0, c), (t, o), (9, 0)] [] S1 = some (S', r)) ∨
       (r1.1 ≠ 8 ∧ zex Cs n' 1 [(.lastore, [218, 1]), (.goto 7, [18])] [(11, x), (0, a), (0, b), (0, c), (t, o), (9, 0)] (zpsh r1 [(0, 0), (t, o)]) S1 = some (S', r))) := by
  have e0 : zloc 6 [(11, x), (0, a), (0, b), (0, c), (t, o)] = [(11, x), (0, a), (0, b), (0, c), (t, o), (9, 0)] := by simp [zloc, zloc0, show t ≠ 1 by omega]
  have e1 : Cs 1 0 = [(.aload 4, [4]), (.iconst 0, [0]), (.aload_n 0, [0]), (.iload_n 1, [1]), (.iload_n 2, [2]), (.iload_n 3, [3]), (.invokevirtual 7, [44, 4, 5, 11, 16]), (.lastore, [218, 1]), (.goto 7, [18])] := rfl
  rw [e0, e1] at h
  obtain ⟨n1, h⟩ := zex_one (ls' := [(11, x), (0, a), (0, b), (0, c), (t, o), (9, 0)]) (st' := [(t, o)]) (S1 := S) h rfl rfl (by simp [zstep, zload, zget, zref, ht])
  obtain ⟨n2, h⟩ := zex_one h rfl rfl (show zstep _ _ _ _ = some (none, _, [(0, 0), (t, o)], S) from rfl)
  obtain ⟨n3, h⟩ := zex_one h rfl rfl (show zstep _ _ _ _ = some (none, _, [(11, x), (0, 0), (t, o)], S) from rfl)
  obtain ⟨n4, h⟩ := zex_one h rfl rfl (show zstep _ _ _ _ = some (none, _, [(0, a), (11, x), (0, 0), (t, o)], S) from rfl)
  obtain ⟨n5, h⟩ := zex_one h rfl rfl (show zstep _ _ _ _ = some (none, _, [(0, b), (0, a), (11, x), (0, 0), (t, o)], S) from rfl)
  obtain ⟨n6, h⟩ := zex_one h rfl rfl (show zstep _ _ _ _ = some (none, _, [(0, c), (0, b), (0, a), (11, x), (0, 0), (t, o)], S) from rfl)
  cases n6 with
  | zero => simp [zex] at h
  | succ n7 =>
    rw [zex] at h
    have ec : zcall ((.invokevirtual 7, [44, 4, 5, 11, 16]) : Ins) = some (44, 4, 5, some 11, some 16) := rfl
    rw [ec] at h
    simp only at h
    split at h
    · rename_i hcond
      have hx : x % 512 = 11 := by
        have := hcond.2.2.1
        simp [zrcv] at this
        exact this
      have et : (List.take 4 ([(0, c), (0, b), (0, a), (11, x), (0, 0), (t, o)] : List AV)).reverse = [(11, x), (0, a), (0, b), (0, c)] := rfl
      have ed : List.drop 4 ([(0, c), (0, b), (0, a), (11, x), (0, 0), (t, o)] : List AV) = [(0, 0), (t, o)] := rfl
      rw [et] at h
      rw [ed] at h
      cases hz : zex Cs n7 44 (Cs 44 0) (zloc 5 [(11, x), (0, a), (0, b), (0, c)]) [] S with
      | none => rw [hz] at h; cases h
      | some y =>
        obtain ⟨S1, r1⟩ := y
        rw [hz] at h
        simp only at h
        split at h
        · rename_i h8
          exact ⟨n7, S1, r1, hz, hx, Or.inl ⟨h8, h⟩⟩
        · rename_i h8
          exact ⟨n7, S1, r1, hz, hx, Or.inr ⟨h8, h⟩⟩
    · cases h
def zwsW1 : List Cond := Cond.codeWith (zy 1) (zb 1) (zml 1) (zrt 1) [(0, 11, 14, 13)] :: lw_all
theorem zw1_all : Cond.codeWith (zy 1) (zb 1) (zml 1) (zrt 1) [(0, 11, 14, 13)] ∈ lw_all := lw_g (by decide +kernel) rfl
theorem zblk1_16 : zchkG znoex znoth 1 16 (Cs 1 16) = true := by decide +kernel
theorem zblk1_10 : zchkG znoex znoth 1 10 [(.lastore, [218, 1]), (.goto 7, [18])] = true := by decide +kernel
theorem zblk1_18 : zchkG znoex znoth 1 18 (Cs 1 18) = true := by decide +kernel
theorem zmt1_facts : zml 1 = 6 ∧ zrt 1 = some .int ∧ zon 1 = zon 411 ∧ zkd 1 = 0 ∧ plainName (zy 1).cls = true ∧ (zy 1).cls = zcn (zon 1) := by decide +kernel
