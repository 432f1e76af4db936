/-! EXCEPTIONS: X.coinOf throws, the law's coinOf catches -/
def zIO : String := "java/lang/IndexOutOfBoundsException"
def zXat : List Cond := Jvm.Bundle.ownAtoms0 "CoinScripts" 447 zIO ["java/lang/RuntimeException", "java/lang/Exception"]
def zXs (w : Cond) : Bool := match w with
  | .castable _ _ => true
  | .declares _ => true
  | .laysStatic _ _ _ => true
  | .isRef (.static _ _ _) => true
  | _ => false
theorem zXat_split : ∀ w ∈ zXat, w ∈ lw_all ∨ zXs w = true := by decide +kernel
/-- what the start says of exceptions, kept along a run -/
def zXw (G : ZG) (U : State) : Prop := ∃ s0 : State, (∀ w ∈ zXat, w.before #[] s0 = true) ∧ s0.WarmedH U.vm ∧ s0.heap.size = G.1 ∧ ∀ q : Nat, q < G.1 → U.heap[q]? = s0.heap[q]?
theorem zXw.moved {G : ZG} {U V : State} (h : zXw G U) (hW : U.WarmedH V.vm) (hh : ∀ q : Nat, q < G.1 → V.heap[q]? = U.heap[q]?) : zXw G V := by
  obtain ⟨s0, h1, h2, h3, h4⟩ := h
  exact ⟨s0, h1, State.WarmedH.trans h2 hW, h3, fun q hq => (hh q hq).trans (h4 q hq)⟩
theorem zXw.use {G : ZG} {U : State} (h : zXw G U) (A : Array Value) : ∀ w ∈ zXat, zXs w = true → w.before A U = true := by
  intro w hw hx
  obtain ⟨s0, h1, h2, h3, h4⟩ := h
  have hw0 := h1 w hw
  unfold zXs at hx
  split at hx
  · exact va_Nw.use rfl (va_Nw.warmC h2 (va_Nw.of rfl hw0))
  · exact va_Nw.use rfl (va_Nw.warmD h2 (va_Nw.of rfl hw0))
  · rename_i o f d
    have e1 : (Cond.laysStatic o f d).before #[] (s0.setVm U.vm) = true := by
      have := Cond.value_setVm₂ (args := #[]) (o := none) (s := s0) h2.alike h2.alike (Cond.laysStatic o f d) [] rfl
      unfold Cond.before Cond.holds at hw0 ⊢
      rw [this]
      exact hw0
    simp only [Cond.before, Cond.holds, Cond.value] at e1 ⊢
    have hfc : (s0.setVm U.vm).vm = U.vm := rfl
    have hff : (s0.setVm U.vm).fieldFound? o f d = U.fieldFound? o f d := rfl
    rw [hfc, hff] at e1
    split at e1
    · rename_i c c' k i fd q1 q2
      cases hs : k.statics with
      | none => simp [hs] at e1
      | some a =>
        rw [hs] at e1
        change (Option.map _ (s0.heap[a]?) == some true) = true at e1
        change (Option.map _ (U.heap[a]?) == some true) = true
        cases hc : s0.heap[a]? with
        | none => rw [hc] at e1; simp at e1
        | some cell =>
          rw [h4 a (by rw [← h3]; exact (Array.getElem?_eq_some_iff.mp hc).1)]
          exact e1
    · simp at e1
  · rename_i o f d
    have e1 : (Cond.isRef (.static o f d)).before #[] (s0.setVm U.vm) = true := by
      have := Cond.value_setVm₂ (args := #[]) (o := none) (s := s0) h2.alike h2.alike (Cond.isRef (.static o f d)) [] rfl
      unfold Cond.before Cond.holds at hw0 ⊢
      rw [this]
      exact hw0
    simp only [Cond.before, Cond.holds, Cond.value, Term.eval] at e1 ⊢
    have hff : (s0.setVm U.vm).fieldNamed? o f d true = U.fieldNamed? o f d true := rfl
    have hheap : (s0.setVm U.vm).heap = s0.heap := rfl
    rw [hff, hheap] at e1
    cases hq : U.fieldNamed? o f d true with
    | none => rw [hq] at e1; simp at e1
    | some y =>
      obtain ⟨cc, k, sl⟩ := y
      rw [hq] at e1
      cases hs : k.statics with
      | none => simp [hs] at e1
      | some a =>
        cases hc : s0.heap[a]? with
        | none => simp [hs, hc] at e1
        | some cell =>
          have hU := h4 a (by rw [← h3]; exact (Array.getElem?_eq_some_iff.mp hc).1)
          simp only [Option.bind_eq_bind, Option.bind_some, hs, hc] at e1
          simp only [Option.bind_eq_bind, Option.bind_some, hs, hU, hc]
          exact e1
  · cases hx
