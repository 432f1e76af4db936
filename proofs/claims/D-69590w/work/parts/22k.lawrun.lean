/-! runs of the law -/
theorem zex_load {C : ZC} {n k : Nat} {i : Ins} {is : List Ins} {ls st : List AV} {S : Sto} {x : Sto × AV} {t : Int → Bool} {j : Int} (h : zex C n k (i :: is) ls st S = some x) (hc : zcall i = none) (hr : zret i st = none) (hs : zstep i ls st S = zload t j ls st S) : t (zget ls j).1 = true ∧ ∃ n', zex C n' k is ls (zget ls j :: st) S = some x := by
  cases n with
  | zero => simp [zex] at h
  | succ n =>
    rw [zex, hc] at h
    simp only [hr, hs, zload] at h
    split at h
    · cases h
    · rename_i heq
      split at heq
      · rename_i ht
        cases heq
        exact ⟨ht, n, h⟩
      · cases heq
    · rename_i heq
      split at heq
      · cases heq
      · cases heq
theorem zshape1 {n : Nat} {as : List AV} {S : Sto} {y : Sto × AV} (h : zex Cs n 1 (Cs 1 0) (zloc 6 as) [] S = some y) (hl : as.length = 5) : ∃ x a b d o t : Int, 10 ≤ t ∧ as = [(11, x), (0, a), (0, b), (0, d), (t, o)] := by
  have e1 : Cs 1 0 = [(.aload 4, [4]), (.iconst 0, [0]), (.aload_n 0, [0]), (.iload_n 1, [1]), (.iload_n 2, [2]), (.iload_n 3, [3]), (.invokevirtual 7, [44, 4, 5, 11, 16]), (.lastore, [218, 1]), (.goto 7, [18])] := rfl
  rw [e1] at h
  obtain ⟨h4, n1, h⟩ := zex_load (t := zref) (j := 4) h rfl rfl rfl
  obtain ⟨n2, h⟩ := zex_one h rfl rfl (show zstep _ _ _ _ = some (none, _, [(0, 0), zget (zloc 6 as) 4], S) from rfl)
  obtain ⟨h0, n3, h⟩ := zex_load (t := zref) (j := 0) h rfl rfl rfl
  obtain ⟨h1, n4, h⟩ := zex_load (t := zis 0) (j := 1) h rfl rfl rfl
  obtain ⟨h2, n5, h⟩ := zex_load (t := zis 0) (j := 2) h rfl rfl rfl
  obtain ⟨h3, n6, h⟩ := zex_load (t := zis 0) (j := 3) h rfl rfl rfl
  have h11 : (zget (zloc 6 as) 0).1 = 11 := by
    cases n6 with
    | zero => simp [zex] at h
    | succ n7 =>
      rw [zex] at h
      have ec : zcall ((.invokevirtual 7, [44, 4, 5, 11, 16]) : Ins) = some (44, 4, 5, some 11, some 16) := rfl
      rw [ec] at h
      simp only at h
      split at h
      · rename_i hcond
        have := hcond.2.2.1
        simp only [List.take, List.reverse_cons, List.reverse_nil, List.nil_append, List.cons_append] at this
        generalize zget (zloc 6 as) 0 = v at this
        obtain ⟨u, w⟩ := v
        simp [zrcv] at this
        exact this.1
      · cases h
  match as, hl with
  | [(t0, y0), (t1, y1), (t2, y2), (t3, y3), (t4, y4)], _ =>
    simp only [zref, zis, decide_eq_true_eq] at h0 h1 h2 h3 h4
    have g0 : t0 ≠ 1 := by
      intro z
      simp [zloc, zloc0, zget, z] at h0
    have g1 : t1 = 0 := by
      by_cases z : t1 = 1
      · simp [zloc, zloc0, zget, g0, z] at h1
      · simp [zloc, zloc0, zget, g0, z] at h1; exact h1
    subst g1
    have g2 : t2 = 0 := by
      by_cases z : t2 = 1
      · simp [zloc, zloc0, zget, g0, z] at h2
      · simp [zloc, zloc0, zget, g0, z] at h2; exact h2
    subst g2
    have g3 : t3 = 0 := by
      by_cases z : t3 = 1
      · simp [zloc, zloc0, zget, g0, z] at h3
      · simp [zloc, zloc0, zget, g0, z] at h3; exact h3
    subst g3
    have g4 : 10 ≤ t4 := by
      by_cases z : t4 = 1
      · simp [zloc, zloc0, zget, g0, z] at h4
      · simp [zloc, zloc0, zget, g0, z] at h4; exact h4
    have g11 : t0 = 11 := by
      simp [zloc, zloc0, zget, g0] at h11; exact h11
    subst g11
    exact ⟨y0, y1, y2, y3, y4, t4, g4, rfl⟩
theorem zlaw_run {l : Launch} {G : ZG} {p : Program} {e : Env} {R : Room} {s : State} {m : MethodId} {args : Array Value} {below : List Frame} {meth : Method} {c : Code} {Q : State → Prop} {M0 : ZM} {b0 b1 : Int} {S' : Sto} {r : AV} (hfl : l.stackTraces = false) (hxw : zXw G s)
    (hpre : zPre l G zex1 znoth p e R s m args below meth c Q M0 b0 b1 411 S' r) : ∀ n : Nat, zRun l G zex1 znoth n p e R s m args below meth c Q M0 b0 b1 411 S' r := by
  intro n
  induction n with
  | zero => exact zRun_0
  | succ n ih =>
    refine zRun_step (zsound l G n).1 hpre ih ?_
    intro pc i is ls st S len hex h hd hl hc2 hok hlen
    obtain ⟨-, X, hR, hR1, hR2, -, -⟩ := id hpre
    have hi : i = (.invokestatic 66, [1, 5, 6]) := by
      unfold zex1 at hex
      split at hex
      · rfl
      · cases hex
    subst hi
    have his : ∀ j ∈ is, zichk 411 j = true := fun j hj => hok j (List.mem_cons_of_mem _ hj)
    rw [zex] at h
    have ec : zcall ((.invokestatic 66, [1, 5, 6]) : Ins) = some (1, 5, 6, none, none) := rfl
    rw [ec] at h
    simp only at h
    split at h
    · rename_i hcond
      obtain ⟨hna, h4', -, -⟩ := hcond
      cases hz : zex Cs n 1 (Cs 1 0) (zloc 6 (st.take 5).reverse) [] S with
      | none => rw [hz] at h; cases h
      | some y =>
        obtain ⟨S1, r1⟩ := y
        rw [hz] at h
        simp only at h
        split at h
        · cases h
        · have hm := zmono _ _ _ _ _ _ _ _ his h
          obtain ⟨x, a, b, d, o, t, ht, has⟩ := zshape1 hz (by rw [List.length_reverse, List.length_take]; omega)
          have hst : st = (t, o) :: (0, d) :: (0, b) :: (0, a) :: (11, x) :: st.drop 5 := by
            have h1 : st.take 5 = [(t, o), (0, d), (0, b), (0, a), (11, x)] := by
              have := congrArg List.reverse has
              rw [List.reverse_reverse] at this
              exact this
            have h2 := (List.take_append_drop 5 st).symm
            rw [h1] at h2
            exact h2
          rw [has] at hz
          have e3 : len = 3 := hl.resolve_left (by simp [zswb])
          subst e3
          rw [hst]
          refine zc_call1 ht hfl X hxw (lw_g (by decide +kernel) rfl) hR hlen h4' hz (by omega) (by omega) hd ?_
          exact ih _ _ ls _ S1 h hc2 his hlen
    · cases h
