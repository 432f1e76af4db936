-- uses: 47
/-! the reader -/
abbrev znum (kd v : Int) : Prop := (kd < 2 → 0 ≤ v) ∧ (kd = 2 → 0 ≤ v ∧ v ≤ 64) ∧ (kd = 6 → 121 ≤ v ∧ v ≤ 127 ∨ 1280 ≤ v ∧ v ≤ 1400)
def zfm (kd : Int) : Int := if kd = 6 then 0 else if kd = 5 then 1 else if kd = 4 then 2 else if kd = 2 then 4 else 3
def zntg (kd v : Int) : Int := if kd = 0 then v else if kd = 1 then -1 - v else if kd ≠ 6 then 0 else if v < 128 then v - 121 else v - 1273
def zcap (w : Int) : Int := if w < 0 ∨ 1000 < w then 1000 else w
def rdB (B : Int → Int) (N kd v p : Int) : Except (Int × Int) (List Int × Int × Int) :=
  if kd < 2 then .ok ([], 0, p) else if kd = 2 then (if N < p + v then .error (1, N) else .ok (ztxt B p v.toNat, 0, p + v)) else
  if kd = 6 then (match rdH B N p 4 with
    | .error e => .error e
    | .ok (_, w, p2) => .ok ([], zcap w, p2)) else .ok ([], if kd = 5 then 2 * zcap v else zcap v, p)
def rdF (B : Int → Int) (N : Int) : Nat → Int → Int → Int → Int → Except (Int × Int) (F × Int × Int)
  | 0, _, _, p, _ => .error (9, p)
  | f + 1, lv, c, p, k =>
    if c = 0 then .ok (.leaf, p, k) else
    match rdH B N p (-1) with
    | .error e => .error e
    | .ok (kd, v, p1) =>
      if ¬ znum kd v then .error (3, p) else if 12 < lv then .error (4, p) else if k = 200 then .error (5, p) else
      match rdB B N kd v p1 with
      | .error e => .error e
      | .ok (tx, n, p2) =>
        match rdF B N f (lv + 1) n p2 (k + 1) with
        | .error e => .error e
        | .ok (ks, p3, k3) => match rdF B N f lv (c - 1) p3 k3 with
          | .error e => .error e
          | .ok (r, p4, k4) => .ok (fcons (zfm kd) (zntg kd v) tx ks r, p4, k4)
def znd (fm tg : Int) (tx : List Int) (ks : F) : Prop := 0 ≤ fm ∧ fm ≤ 4 ∧ (fm = 3 → zLong tg ∧ ks = .leaf) ∧ (fm = 4 → tg = 0 ∧ tx.length ≤ 64 ∧ (∀ b ∈ tx, 0 ≤ b ∧ b < 256) ∧ ks = .leaf) ∧ (fm = 0 → 0 ≤ tg ∧ tg ≤ 127) ∧ (fm = 1 → tg = 0 ∧ flen ks % 2 = 0) ∧ (fm = 2 → tg = 0) ∧ (fm ≠ 4 → tx = [])
def fval : Int → F → Prop
  | _, .leaf => True
  | lv, .inner sz (fm, tg, tx) _ ks r => sz = 0 ∧ lv ≤ 12 ∧ znd fm tg tx ks ∧ fval (lv + 1) ks ∧ fval lv r
theorem flen_le : ∀ f : F, flen f ≤ fsize f
  | .leaf => by simp [flen, fsize]
  | .inner _ _ _ ks r => by have := flen_le r; have := fsize0 ks; simp only [flen, fsize]; omega
theorem ztxt_mem {B : Int → Int} {N : Int} (hB : zby B N) : ∀ (c : Nat) (p : Int), 0 ≤ p → p + c ≤ N → ∀ b ∈ ztxt B p c, 0 ≤ b ∧ b < 256 := by
  intro c
  induction c with
  | zero => intro p _ _ b hb; cases hb
  | succ c ih =>
    intro p h0 h1 b hb
    rw [ztxt] at hb
    cases hb with
    | head => exact hB p h0 (by omega)
    | tail _ hb => exact ih (p + 1) (by omega) (by omega) b hb
theorem flen_z : ∀ f : F, flen f = 0 → f = .leaf
  | .leaf => fun _ => rfl
  | .inner _ _ _ _ r => fun h => by have := flen0 r; simp only [flen] at h; omega
theorem zLong_wide {v : Int} (h : 0 ≤ v) (h1 : v ≤ 64) : zLong v := by unfold zLong; omega
/-- what the own part of a node gives -/
theorem rdB_ok {B : Int → Int} {N p p1 kd v p2 n : Int} {tx : List Int} (hB : zby B N) (h0 : 0 ≤ p) (hN : p ≤ N) (hh : rdH B N p (-1) = .ok (kd, v, p1)) (hz : znum kd v) (h : rdB B N kd v p1 = .ok (tx, n, p2)) :
    p < p2 ∧ p2 ≤ N ∧ 0 ≤ n ∧ ∀ ks : F, flen ks = n → n ≤ 400 → znd (zfm kd) (zntg kd v) tx ks ∧ zhdr (zfm kd) (zntg kd v) tx (zct (zfm kd) tx ks) = ztxt B p (p2 - p).toNat := by
  obtain ⟨s1, s2, s3, s4, s5, s6, s7, s8⟩ := rdH_sound hB h0 hN hh
  have hk : kd = 0 ∨ kd = 1 ∨ kd = 2 ∨ kd = 4 ∨ kd = 5 ∨ kd = 6 := by omega
  obtain ⟨z1, z2, z3⟩ := hz
  unfold zLong at s4
  rcases hk with rfl | rfl | rfl | rfl | rfl | rfl
  · simp [rdB] at h
    obtain ⟨rfl, rfl, rfl⟩ := h
    have v0 := z1 (by omega)
    refine ⟨by omega, by omega, by omega, fun ks a _ => ?_⟩
    have := flen_z ks a
    subst this
    refine ⟨by simp [znd, zfm, zntg, zLong]; omega, ?_⟩
    simp [zhdr, zfm, zntg]
    rw [if_neg (by omega), if_neg (by omega), s1]
    congr 1; omega
  · simp [rdB] at h
    obtain ⟨rfl, rfl, rfl⟩ := h
    have v0 := z1 (by omega)
    refine ⟨by omega, by omega, by omega, fun ks a _ => ?_⟩
    have := flen_z ks a
    subst this
    refine ⟨by simp [znd, zfm, zntg, zLong]; omega, ?_⟩
    simp [zhdr, zfm, zntg]
    rw [if_pos (by omega), if_pos (by omega), show -1 - (-1 - v) = v by omega, s1]
    congr 1; omega
  · have v0 := z2 rfl
    simp [rdB] at h
    split at h
    · cases h
    rename_i q
    simp at h
    obtain ⟨rfl, rfl, rfl⟩ := h
    refine ⟨by omega, by omega, by omega, fun ks a _ => ?_⟩
    have := flen_z ks a
    subst this
    have ml : ((ztxt B p1 v.toNat).length : Int) = v := by rw [ztxt_len]; omega
    refine ⟨?_, ?_⟩
    · refine ⟨by decide, by decide, by simp [zfm], ?_, by simp [zfm], by simp [zfm], by simp [zfm], by simp [zfm]⟩
      intro _
      exact ⟨rfl, by rw [ztxt_len]; omega, ztxt_mem hB _ _ (by omega) (by omega), rfl⟩
    · have e : zct (zfm 2) (ztxt B p1 v.toNat) .leaf = v := by simp [zct, zfm, ztxt_len]; omega
      rw [e]
      simp [zhdr, zfm]
      rw [s1, show (p1 + v - p).toNat = 1 + zwide v + v.toNat by omega, ztxt_add B v.toNat (1 + zwide v) p, show p + ((1 + zwide v : Nat) : Int) = p1 by omega]
  · simp [rdB] at h
    obtain ⟨rfl, rfl, rfl⟩ := h
    refine ⟨by omega, by omega, by unfold zcap; split <;> omega, fun ks a b => ?_⟩
    have cv : zcap v = v := by unfold zcap at b ⊢; split at b <;> rename_i q <;> simp [q]; omega
    refine ⟨by simp [znd, zfm, zntg], ?_⟩
    simp [zhdr, zfm, zct]
    rw [a, cv, s1]
    congr 1; omega
  · simp [rdB] at h
    obtain ⟨rfl, rfl, rfl⟩ := h
    refine ⟨by omega, by omega, by unfold zcap; split <;> omega, fun ks a b => ?_⟩
    have cv : zcap v = v := by unfold zcap at b ⊢; split at b <;> rename_i q <;> simp [q]; omega
    refine ⟨by simp [znd, zfm, zntg]; omega, ?_⟩
    simp [zhdr, zfm, zct]
    rw [a, cv, show 2 * v / 2 = v by omega, s1]
    congr 1; omega
  · have v0 := z3 rfl
    simp [rdB] at h
    split at h
    · cases h
    rename_i k' w p' hw
    simp at h
    obtain ⟨rfl, rfl, rfl⟩ := h
    obtain ⟨t1, t2, t3, t4, t5, t6, t7, t8⟩ := rdH_sound hB (by omega) s3 hw
    have t8 := t8 (by omega)
    subst t8
    refine ⟨by omega, by omega, by unfold zcap; split <;> omega, fun ks a b => ?_⟩
    have cv : zcap w = w := by unfold zcap at b ⊢; split at b <;> rename_i q <;> simp [q]; omega
    have tv : ztag (zntg 6 v) = v := by simp [zntg, ztag]; (repeat' split) <;> omega
    refine ⟨by simp [znd, zfm, zntg]; split <;> omega, ?_⟩
    have e : zct (zfm 6) [] ks = w := by simp [zct, zfm]; omega
    rw [e]
    have e2 : zhdr (zfm 6) (zntg 6 v) [] w = zeH 6 (ztag (zntg 6 v)) ++ zeH 4 w := by simp [zhdr, zfm]
    rw [e2, tv, s1, t1, show (p' - p).toNat = 1 + zwide v + (1 + zwide w) by omega, ztxt_add B (1 + zwide w) (1 + zwide v) p, show p + ((1 + zwide v : Nat) : Int) = p1 by omega]
theorem rdF_ok {B : Int → Int} {N : Int} (hB : zby B N) : ∀ (f : Nat) (lv c p k : Int) (r : F) (p' k' : Int), 0 ≤ p → p ≤ N → 0 ≤ c → 0 ≤ k → k ≤ 200 → rdF B N f lv c p k = .ok (r, p', k') →
    flen r = c ∧ k' = k + fsize r ∧ k' ≤ 200 ∧ p ≤ p' ∧ p' ≤ N ∧ fenc r = ztxt B p (p' - p).toNat ∧ fval lv r := by
  intro f
  induction f with
  | zero => intro lv c p k r p' k' _ _ _ _ _ h; cases h
  | succ f ih =>
    intro lv c p k r p' k' h0 hN hc hk hk2 h
    rw [rdF] at h
    split at h
    · injection h with h
      injection h with e1 h
      injection h with e2 e3
      subst e1 e2 e3
      simp [flen, fsize, fenc, fval, ztxt]
      omega
    rename_i c0
    split at h
    · cases h
    rename_i kd v p1 hh
    split at h
    · cases h
    rename_i z
    split at h
    · cases h
    rename_i l12
    split at h
    · cases h
    rename_i k200
    split at h
    · cases h
    rename_i tx n p2 hb
    split at h
    · cases h
    rename_i ks p3 k3 hks
    split at h
    · cases h
    rename_i r' p4 k4 hr
    injection h with h
    injection h with e1 h
    injection h with e2 e3
    subst e1 e2 e3
    obtain ⟨b1, b2, b3, b4⟩ := rdB_ok hB h0 hN hh (Decidable.not_not.mp z) hb
    obtain ⟨x1, x2, x3, x4, x5, x6, x7⟩ := ih _ _ _ _ _ _ _ (by omega) b2 b3 (by omega) (by omega) hks
    have y0 := fsize0 ks
    obtain ⟨y1, y2, y3, y4, y5, y6, y7⟩ := ih _ _ _ _ _ _ _ (by omega) x5 (by omega) (by omega) (by omega) hr
    have l := flen_le ks
    obtain ⟨b5, b6⟩ := b4 ks x1 (by omega)
    refine ⟨by simp only [fcons, flen]; omega, by simp only [fcons, fsize]; omega, y3, by omega, y5, ?_, ?_⟩
    · simp only [fcons, fenc]
      rw [b6, x6, y6, show (p4 - p).toNat = (p2 - p).toNat + ((p3 - p2).toNat + (p4 - p3).toNat) by omega, ztxt_add, ztxt_add, show p + ((p2 - p).toNat : Int) = p2 by omega, show p2 + ((p3 - p2).toNat : Int) = p3 by omega]
    · exact ⟨rfl, by omega, b5, x7, y7⟩
theorem rdF_big {B : Int → Int} {N : Int} (hB : zby B N) : ∀ (f : Nat) (lv c c' p k : Int), 0 ≤ p → p ≤ N → 0 ≤ k → k ≤ 200 → 201 - k ≤ c → 201 - k ≤ c' → rdF B N f lv c p k = rdF B N f lv c' p k := by
  intro f
  induction f with
  | zero => intros; rfl
  | succ f ih =>
    intro lv c c' p k h0 hN hk hk2 hc hc'
    rw [rdF, rdF, if_neg (by omega), if_neg (by omega)]
    split
    · rfl
    rename_i kd v p1 hh
    split
    · rfl
    rename_i z
    split
    · rfl
    split
    · rfl
    split
    · rfl
    rename_i tx n p2 hb
    obtain ⟨b1, b2, b3, b4⟩ := rdB_ok hB h0 hN hh (Decidable.not_not.mp z) hb
    split
    · rfl
    rename_i ks p3 k3 hks
    obtain ⟨x1, x2, x3, x4, x5, x6, x7⟩ := rdF_ok hB _ _ _ _ _ _ _ _ (by omega) b2 b3 (by omega) (by omega) hks
    have y0 := fsize0 ks
    rw [ih lv (c - 1) (c' - 1) p3 k3 (by omega) x5 (by omega) (by omega) (by omega) (by omega)]
theorem ztxt_l {B : Int → Int} {p : Int} {a b : List Int} (h : ztxt B p (a ++ b).length = a ++ b) : ztxt B p a.length = a ∧ ztxt B (p + a.length) b.length = b := by
  rw [List.length_append, ztxt_add] at h
  exact List.append_inj h (ztxt_len _ _ _)
theorem zhdr_compl {B : Int → Int} {N p fm tg : Int} {tx : List Int} {ks : F} (hB : zby B N) (h0 : 0 ≤ p) (hn : znd fm tg tx ks) (hl : flen ks ≤ 200) (hN : p + (zhdr fm tg tx (zct fm tx ks)).length ≤ N) (ht : ztxt B p (zhdr fm tg tx (zct fm tx ks)).length = zhdr fm tg tx (zct fm tx ks)) :
    ∃ kd v p1, rdH B N p (-1) = .ok (kd, v, p1) ∧ znum kd v ∧ rdB B N kd v p1 = .ok (tx, flen ks, p + (zhdr fm tg tx (zct fm tx ks)).length) ∧ zfm kd = fm ∧ zntg kd v = tg := by
  obtain ⟨n1, n2, n3, n4, n5, n6, n7, n8⟩ := hn
  have l0 := flen0 ks
  have hk : fm = 0 ∨ fm = 1 ∨ fm = 2 ∨ fm = 3 ∨ fm = 4 := by omega
  rcases hk with rfl | rfl | rfl | rfl | rfl
  · have t := n5 rfl
    have x := n8 (by decide)
    subst x
    have e : zct 0 [] ks = flen ks := by simp [zct]
    rw [e] at hN ht ⊢
    simp only [zhdr, Int.reduceEq, if_false] at hN ht ⊢
    have ⟨a, b⟩ := ztxt_l ht
    rw [List.length_append] at hN ⊢
    rw [zeH_len, zeH_len] at hN ⊢
    rw [zeH_len] at a b
    rw [zeH_len] at b
    have tb : 121 ≤ ztag tg ∧ ztag tg ≤ 1400 := by unfold ztag; split <;> omega
    have r1 := rdH_compl (al := -1) hB h0 (kd := 6) (v := ztag tg) (by omega) (by omega) (by unfold zLong; omega) (by omega) a
    have r2 := rdH_compl (al := 4) hB (p := p + ((1 + zwide (ztag tg) : Nat) : Int)) (by omega) (kd := 4) (v := flen ks) (by omega) (by omega) (by unfold zLong; omega) (by omega) b
    refine ⟨6, ztag tg, _, r1, ?_, ?_, rfl, ?_⟩
    · refine ⟨by omega, by omega, fun _ => ?_⟩
      unfold ztag; split <;> omega
    · rw [show p + ((1 + zwide (ztag tg) : Nat) : Int) = p + 1 + zwide (ztag tg) by omega] at r2
      simp [rdB, r2, zcap]
      constructor
      · intro q; omega
      · omega
    · simp [zntg, ztag]; (repeat' split) <;> omega
  · have t := n6 rfl
    have x := n8 (by decide)
    subst x
    have e : zct 1 [] ks = flen ks / 2 := by simp [zct]
    rw [e] at hN ht ⊢
    simp only [zhdr, Int.reduceEq, if_false, if_true] at hN ht ⊢
    rw [zeH_len] at ht hN ⊢
    have r1 := rdH_compl (al := -1) hB h0 (kd := 5) (v := flen ks / 2) (by omega) (by omega) (by unfold zLong; omega) (by omega) ht
    refine ⟨5, flen ks / 2, _, r1, ?_, ?_, rfl, ?_⟩
    · exact ⟨by omega, by omega, by omega⟩
    · simp [rdB, zcap]
      refine ⟨?_, by omega⟩
      rw [if_neg (by omega)]; omega
    · simp [zntg]; omega
  · have t := n7 rfl
    have x := n8 (by decide)
    subst x
    have e : zct 2 [] ks = flen ks := by simp [zct]
    rw [e] at hN ht ⊢
    simp only [zhdr, Int.reduceEq, if_false, if_true] at hN ht ⊢
    rw [zeH_len] at ht hN ⊢
    have r1 := rdH_compl (al := -1) hB h0 (kd := 4) (v := flen ks) (by omega) (by omega) (by unfold zLong; omega) (by omega) ht
    refine ⟨4, flen ks, _, r1, ?_, ?_, rfl, ?_⟩
    · exact ⟨by omega, by omega, by omega⟩
    · simp [rdB, zcap]
      refine ⟨?_, by omega⟩
      omega
    · simp [zntg]; omega
  · have t := n3 rfl
    have x := n8 (by decide)
    subst x
    obtain ⟨t1, t2⟩ := t
    subst t2
    unfold zLong at t1
    have e : zct 3 [] .leaf = 0 := by simp [zct]
    rw [e] at hN ht ⊢
    simp only [zhdr, if_true] at hN ht ⊢
    rw [zeH_len] at ht hN ⊢
    by_cases q : tg < 0
    · simp only [q, if_true] at ht hN ⊢
      have r1 := rdH_compl (al := -1) hB h0 (kd := 1) (v := -1 - tg) (by omega) (by omega) (by unfold zLong; omega) (by omega) ht
      refine ⟨1, -1 - tg, _, r1, ?_, ?_, rfl, ?_⟩
      · exact ⟨by omega, by omega, by omega⟩
      · simp [rdB, flen]; omega
      · simp [zntg]; omega
    · simp only [q, if_false] at ht hN ⊢
      have r1 := rdH_compl (al := -1) hB h0 (kd := 0) (v := tg) (by omega) (by omega) (by unfold zLong; omega) (by omega) ht
      refine ⟨0, tg, _, r1, ?_, ?_, rfl, ?_⟩
      · exact ⟨by omega, by omega, by omega⟩
      · simp [rdB, flen]; omega
      · simp [zntg]
  · have t := n4 rfl
    obtain ⟨t1, t2, t3, t4⟩ := t
    subst t4
    have e : zct 4 tx .leaf = tx.length := by simp [zct]
    rw [e] at hN ht ⊢
    simp only [zhdr, Int.reduceEq, if_false, if_true] at hN ht ⊢
    have ⟨a, b⟩ := ztxt_l ht
    rw [List.length_append] at hN ⊢
    rw [zeH_len] at a b hN ⊢
    have r1 := rdH_compl (al := -1) hB h0 (kd := 2) (v := tx.length) (by omega) (by omega) (by unfold zLong; omega) (by omega) a
    refine ⟨2, tx.length, _, r1, ?_, ?_, rfl, ?_⟩
    · exact ⟨by omega, by omega, by omega⟩
    · rw [show p + ((1 + zwide (tx.length : Int) : Nat) : Int) = p + 1 + zwide (tx.length : Int) by omega] at b
      simp [rdB, flen]
      rw [if_neg (by omega), b]
      simp; omega
    · simp [zntg]; omega
/-- what was written is read again -/
theorem rdF_compl {B : Int → Int} {N : Int} (hB : zby B N) : ∀ (f : Nat) (r : F) (lv p k : Int), 0 ≤ p → p + (fenc r).length ≤ N → 0 ≤ k → k + fsize r ≤ 200 → fsize r < f → fval lv r → ztxt B p (fenc r).length = fenc r → rdF B N f lv (flen r) p k = .ok (r, p + (fenc r).length, k + fsize r) := by
  intro f
  induction f with
  | zero => intro r; have := fsize0 r; intros; omega
  | succ f ih =>
    intro r lv p k h0 hN hk hk2 hf hv ht
    match r, hv with
    | .leaf, _ => rw [rdF]; simp [flen, fenc, fsize]
    | .inner sz (fm, tg, tx) u ks r, ⟨v1, v2, v3, v4, v5⟩ =>
      subst v1
      have s1 := fsize0 ks
      have s2 := fsize0 r
      have l1 := flen0 r
      have l2 := flen0 ks
      have l3 := flen_le ks
      simp only [fenc, fsize] at hN hk2 hf ht ⊢
      obtain ⟨a, b⟩ := ztxt_l ht
      obtain ⟨b, c⟩ := ztxt_l b
      simp only [List.length_append] at hN ⊢
      obtain ⟨kd, v, p1, r1, r2, r3, r4, r5⟩ := zhdr_compl hB h0 v3 (by omega) (by omega) a
      have k1 := ih ks (lv + 1) _ (k + 1) (by omega) (by omega) (by omega) (by omega) (by omega) v4 b
      have k2 := ih r lv _ (k + 1 + fsize ks) (by omega) (by omega) (by omega) (by omega) (by omega) v5 c
      rw [rdF, if_neg (by simp only [flen]; omega), r1]
      simp only
      rw [if_neg (fun q => q r2), if_neg (by omega), if_neg (by omega), r3]
      simp only
      rw [k1]
      simp only
      rw [show flen (.inner 0 (fm, tg, tx) u ks r : F) - 1 = flen r by simp only [flen]; omega, k2]
      simp only [fcons, r4, r5]
      congr 3
      · omega
      · omega
