-- uses: 71b
/-- where a node's bytes begin -/
def fhp : F → Int → Int
  | .leaf, _ => 0
  | .inner _ (fm, tg, tx) _ ks r, i => if i = 0 then 0 else if i ≤ fsize ks then (zhdr fm tg tx (zct fm tx ks)).length + fhp ks (i - 1) else (zhdr fm tg tx (zct fm tx ks)).length + (fenc ks).length + fhp r (i - 1 - fsize ks)
theorem fhp_0 : ∀ f : F, fhp f 0 = 0
  | .leaf => rfl
  | .inner _ (fm, tg, tx) _ ks r => by rw [fhp, if_pos rfl]
theorem fhp_end : ∀ f : F, fhp f (fsize f) = (fenc f).length
  | .leaf => rfl
  | .inner _ (fm, tg, tx) _ ks r => by
    have s1 := fsize0 ks
    have s2 := fsize0 r
    rw [fhp, fsize, if_neg (by omega)]
    simp only [fenc, List.length_append]
    rw [if_neg (by omega), show 1 + fsize ks + fsize r - 1 - fsize ks = fsize r by omega, fhp_end r]
    omega
/-- M's heads are those -/
theorem mseg_hp {S : Sto} : ∀ (f : F) (lv k p : Int), mseg S lv k p f → ∀ i, 0 ≤ i → i < fsize f → S 138 (k + i) = p + fhp f i
  | .leaf, _, _, _, _, i, h0, h1 => by simp only [fsize] at h1; omega
  | .inner _ (fm, tg, tx) _ ks r, lv, k, p, h, i, h0, h1 => by
    have s1 := fsize0 ks
    simp only [fsize] at h1
    simp only [mseg] at h
    obtain ⟨⟨a1, a2, a3, a4, a5, a6⟩, b, c⟩ := h
    rw [fhp]
    by_cases q : i = 0
    · rw [if_pos q, q, Int.add_zero, a4]; omega
    · rw [if_neg q]
      by_cases q2 : i ≤ fsize ks
      · rw [if_pos q2]
        have := mseg_hp ks _ _ _ b (i - 1) (by omega) (by omega)
        rw [show k + 1 + (i - 1) = k + i by omega] at this
        omega
      · rw [if_neg q2]
        have := mseg_hp r _ _ _ c (i - 1 - fsize ks) (by omega) (by omega)
        rw [show k + 1 + fsize ks + (i - 1 - fsize ks) = k + i by omega] at this
        omega
/-- how many bytes a node's own part has -/
def hlen (fm tg n : Int) : Int := if fm = 3 then 1 + zwide (if tg < 0 then -1 - tg else tg) else if fm = 4 then 1 + zwide n + n else if fm = 0 then 1 + zwide (ztag tg) + (1 + zwide n) else 1 + zwide n
theorem zhdr_hl {fm tg : Int} {tx : List Int} {ks : F} (h : 0 ≤ fm ∧ fm ≤ 4) : ((zhdr fm tg tx (zct fm tx ks)).length : Int) = hlen fm tg (zct fm tx ks) := by
  have z : fm = 0 ∨ fm = 1 ∨ fm = 2 ∨ fm = 3 ∨ fm = 4 := by omega
  rcases z with rfl | rfl | rfl | rfl | rfl
  · simp [zhdr, hlen, zeH_len]
  · simp [zhdr, hlen, zeH_len]
  · simp [zhdr, hlen, zeH_len]
  · simp [zhdr, hlen, zeH_len]
  · simp [zhdr, hlen, zeH_len, zct]
theorem fhp_s : ∀ (f : F) (lv : Int), fval lv f → ∀ i, 0 ≤ i → i < fsize f → fhp f (i + 1) = fhp f i + hlen (nf f i) (nt f i) (nc f i)
  | .leaf, _, _, i, h0, h1 => by simp only [fsize] at h1; omega
  | .inner s (fm, tg, tx) u ks r, lv, ⟨v0, v1, v2, v3, v4⟩, i, h0, h1 => by
    have s1 := fsize0 ks
    have s2 := fsize0 r
    have hz := zhdr_hl (tg := tg) (tx := tx) (ks := ks) ⟨v2.1, v2.2.1⟩
    have ke := fhp_end ks
    have k0 := fhp_0 ks
    have r0 := fhp_0 r
    simp only [fsize] at h1
    by_cases q : i = 0
    · subst q
      simp only [nf, nt, nc, fat_0]
      rw [fhp, fhp, if_neg (by omega), if_pos rfl, ← hz]
      by_cases q2 : fsize ks = 0
      · rw [q2] at ke
        rw [if_neg (by omega), show (0 : Int) + 1 - 1 - fsize ks = 0 by omega, r0]
        omega
      · rw [if_pos (by omega), show (0 : Int) + 1 - 1 = 0 by omega, k0]
        omega
    · by_cases q2 : i ≤ fsize ks
      · have e : fat (.inner s (fm, tg, tx) u ks r) i = fat ks (i - 1) := by rw [fat, if_neg q, if_pos q2]
        have I := fhp_s ks (lv + 1) v3 (i - 1) (by omega) (by omega)
        simp only [nf, nt, nc, e] at I ⊢
        rw [show i - 1 + 1 = i by omega] at I
        rw [fhp, fhp, if_neg (by omega), if_neg q, if_pos q2]
        by_cases q3 : i + 1 ≤ fsize ks
        · rw [if_pos q3, show i + 1 - 1 = i by omega, I]
          omega
        · have q4 : i = fsize ks := by omega
          rw [if_neg q3, show i + 1 - 1 - fsize ks = 0 by omega, r0]
          rw [← q4] at ke
          omega
      · have e : fat (.inner s (fm, tg, tx) u ks r) i = fat r (i - 1 - fsize ks) := by rw [fat, if_neg q, if_neg q2]
        have I := fhp_s r lv v4 (i - 1 - fsize ks) (by omega) (by omega)
        simp only [nf, nt, nc, e] at I ⊢
        rw [fhp, fhp, if_neg (by omega), if_neg q, if_neg (by omega), if_neg q2, show i + 1 - 1 - fsize ks = i - 1 - fsize ks + 1 by omega, I]
        omega
