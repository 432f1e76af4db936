/-! THE START 1: what the words say of classes and fields -/
theorem zcq_u {t : Int} {q : vw_C × (Nat → FieldType) × List Int} (h : zcq t = some q) : (∀ w ∈ u_ws q.1.1 q.1.2.1 q.1.2.2, w ∈ lw_all) ∧ ∃ n, Cond.instantiable q.1.1 n ∈ lw_all := by
  have ok := zcq_ok h
  exact ⟨ok.1, _, ok.2.1.1⟩
theorem zkn1 {s : State} {args : Array Value} (hts : ∀ w ∈ lw_all, w.before args s = true) : ∃ (fc : Int → ClassId) (fs : Int → Nat → Nat), ∀ t q, zcq t = some q → u_Kn s q.1.1 q.1.2.1 q.1.2.2 (fc t) (fs t) := by
  have H : ∀ t : Int, ∃ (x : ClassId × (Nat → Nat)), ∀ q, zcq t = some q → u_Kn s q.1.1 q.1.2.1 q.1.2.2 x.1 x.2 := by
    intro t
    cases h : zcq t with
    | none => exact ⟨(0, fun _ => 0), fun q hq => by cases hq⟩
    | some q =>
      obtain ⟨h1, n, h2⟩ := zcq_u h
      obtain ⟨cC, iS, h3⟩ := u_known hts h1 (hts _ h2)
      exact ⟨(cC, iS), fun q' hq => by cases hq; exact h3⟩
  exact ⟨fun t => (H t).choose.1, fun t => (H t).choose.2, fun t q hq => (H t).choose_spec q hq⟩
/-- array classes that the words name -/
def zaw (ty : FieldType) : Cond := match ty with
  | .object C => .arrayOver (.object C)
  | ty => .arrayClass ty
def zarT (s : State) (ty : FieldType) (cA : ClassId) : Prop := ∃ k comp, s.vm.classes[cA]? = some k ∧ k.kind = .array comp ty ∧ s.vm.findClass ("[" ++ ty.toString) = some cA ∧ ∀ C, ty = .object C → s.vm.findClass C = some comp
theorem zatL_w : ∀ e ∈ zatL, zaw e.1 ∈ lw_tbl := by decide +kernel
theorem zarT_of {s : State} {args : Array Value} {ty : FieldType} (h : (zaw ty).before args s = true) : ∃ cA, zarT s ty cA := by
  unfold zaw at h
  split at h
  · rename_i C
    obtain ⟨comp, c, k, h1, h2, h3, h4, h5⟩ := Cond.arrayOver_spec h
    exact ⟨c, k, comp, h3, h4, h5, fun C' e => by cases e; exact h1⟩
  · rename_i hne
    obtain ⟨c, k, comp, h1, h2, h3⟩ := Cond.arrayClass_spec h
    exact ⟨c, k, comp, h2, h3, h1, fun C' e => absurd e (hne C')⟩
theorem zkn2 {s : State} {args : Array Value} (hts : ∀ w ∈ lw_tbl, w.before args s = true) : ∃ fa : Int → ClassId, ∀ t ty n0 et, zat t = some (ty, n0, et) → zarT s ty (fa t) := by
  have H : ∀ t : Int, ∃ x : ClassId, ∀ ty n0 et, zat t = some (ty, n0, et) → zarT s ty x := by
    intro t
    cases h : zat t with
    | none => exact ⟨0, fun ty n0 et hq => by cases hq⟩
    | some y =>
      obtain ⟨ty, n0, et⟩ := y
      have hm : (ty, n0, et) ∈ zatL := by
        unfold zat at h
        split at h
        · exact List.mem_of_getElem? h
        · cases h
      obtain ⟨cA, h1⟩ := zarT_of (hts _ (zatL_w _ hm))
      exact ⟨cA, fun ty' n0' et' hq => by cases hq; exact h1⟩
  exact ⟨fun t => (H t).choose, fun t ty n0 et hq => (H t).choose_spec ty n0 et hq⟩
theorem zkn3 {s : State} {args : Array Value} (hts : ∀ w ∈ lw_tbl, w.before args s = true) : (∀ e ∈ zlmN, va_Nw (.methodLinkNest (zcn e.1) e.2.1 (zy e.2.2.1) e.2.2.2) s) ∧
    (∀ e ∈ zlfN, ∀ q, zcq e.2.2.1 = some q → va_Nw (.fieldLinkNest (zcn e.1) e.2.1 q.1.1 (q.1.2.1 e.2.2.2.1).2.1 (q.1.2.1 e.2.2.2.1).2.2.1 e.2.2.2.2) s) := by
  refine ⟨fun e he => va_Nw.of rfl (hts _ (zlmN_ok e he)), fun e he q hq => ?_⟩
  obtain ⟨q', h1, h2⟩ := zlfN_ok e he
  cases hq.symm.trans h1
  exact va_Nw.of rfl (hts _ h2)
theorem zao_w : ∀ t ∈ ([38, 16, 21, 31] : List Int), (match zcq t with | some q => decide (Cond.arrayOver (.object q.1.1) ∈ lw_tbl) | none => true) = true := by decide +kernel
theorem zkn5 {s : State} {args : Array Value} (hts : ∀ w ∈ lw_tbl, w.before args s = true) : ∀ t q, zcq t = some q → t ∈ ([38, 16, 21, 31] : List Int) → va_AO q.1.1 s := by
  intro t q hq ht
  have h := zao_w t ht
  rw [hq] at h
  exact va_AO.of (hts _ (of_decide_eq_true h))
