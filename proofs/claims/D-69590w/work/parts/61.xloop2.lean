-- uses: 60
def xok (S S' : Sto) (z d dl p : Int) (r : F) : Prop := (S' 28 3 = S 28 3) ∧ (S' 28 4 = S 28 4) ∧ (S' 28 2 = p) ∧ (XFs S') ∧ (S' 26 9 = z + fsize r) ∧ (xlow S S' z) ∧ (xoth S S') ∧ (S' 28 7 = d) ∧ (∀ i, i < d → S' 107 i = S 107 i) ∧ (∀ i, i < dl → S' 108 i = S 108 i) ∧ (xseg S' z r)
theorem xok.mk1 {S S' : Sto} {z d dl p : Int} {r : F} (ft : S' 28 3 = S 28 3) (plc : S' 28 4 = S 28 4) (at1 : S' 28 2 = p) (xf : XFs S') (sz : S' 26 9 = z + fsize r) (lo : xlow S S' z) (ot : xoth S S') (dp : S' 28 7 = d) (op : ∀ i, i < d → S' 107 i = S 107 i) (lf : ∀ i, i < dl → S' 108 i = S 108 i) (sg : xseg S' z r) : xok S S' z d dl p r := by unfold xok; exact ⟨ft, plc, at1, xf, sz, lo, ot, dp, op, lf, sg⟩
theorem xok.ft {S S' : Sto} {z d dl p : Int} {r : F} (h : xok S S' z d dl p r) : S' 28 3 = S 28 3 := by unfold xok at h; exact h.1
theorem xok.plc {S S' : Sto} {z d dl p : Int} {r : F} (h : xok S S' z d dl p r) : S' 28 4 = S 28 4 := by unfold xok at h; exact h.2.1
theorem xok.at1 {S S' : Sto} {z d dl p : Int} {r : F} (h : xok S S' z d dl p r) : S' 28 2 = p := by unfold xok at h; exact h.2.2.1
theorem xok.xf {S S' : Sto} {z d dl p : Int} {r : F} (h : xok S S' z d dl p r) : XFs S' := by unfold xok at h; exact h.2.2.2.1
theorem xok.sz {S S' : Sto} {z d dl p : Int} {r : F} (h : xok S S' z d dl p r) : S' 26 9 = z + fsize r := by unfold xok at h; exact h.2.2.2.2.1
theorem xok.lo {S S' : Sto} {z d dl p : Int} {r : F} (h : xok S S' z d dl p r) : xlow S S' z := by unfold xok at h; exact h.2.2.2.2.2.1
theorem xok.ot {S S' : Sto} {z d dl p : Int} {r : F} (h : xok S S' z d dl p r) : xoth S S' := by unfold xok at h; exact h.2.2.2.2.2.2.1
theorem xok.dp {S S' : Sto} {z d dl p : Int} {r : F} (h : xok S S' z d dl p r) : S' 28 7 = d := by unfold xok at h; exact h.2.2.2.2.2.2.2.1
theorem xok.op {S S' : Sto} {z d dl p : Int} {r : F} (h : xok S S' z d dl p r) : ∀ i, i < d → S' 107 i = S 107 i := by unfold xok at h; exact h.2.2.2.2.2.2.2.2.1
theorem xok.lf {S S' : Sto} {z d dl p : Int} {r : F} (h : xok S S' z d dl p r) : ∀ i, i < dl → S' 108 i = S 108 i := by unfold xok at h; exact h.2.2.2.2.2.2.2.2.2.1
theorem xok.sg {S S' : Sto} {z d dl p : Int} {r : F} (h : xok S S' z d dl p r) : xseg S' z r := by unfold xok at h; exact h.2.2.2.2.2.2.2.2.2.2
def xer (S S' : Sto) (z e pl : Int) : Prop := (S' 28 3 = e) ∧ (S' 28 4 = pl) ∧ (0 < e) ∧ (XFs S') ∧ (z ≤ S' 26 9 ∧ S' 26 9 ≤ 1800) ∧ (xlow S S' z) ∧ (xoth S S')
theorem xer.mk1 {S S' : Sto} {z e pl : Int} (ft : S' 28 3 = e) (plc : S' 28 4 = pl) (e0 : 0 < e) (xf : XFs S') (sz : z ≤ S' 26 9 ∧ S' 26 9 ≤ 1800) (lo : xlow S S' z) (ot : xoth S S') : xer S S' z e pl := by unfold xer; exact ⟨ft, plc, e0, xf, sz, lo, ot⟩
theorem xer.ft {S S' : Sto} {z e pl : Int} (h : xer S S' z e pl) : S' 28 3 = e := by unfold xer at h; exact h.1
theorem xer.plc {S S' : Sto} {z e pl : Int} (h : xer S S' z e pl) : S' 28 4 = pl := by unfold xer at h; exact h.2.1
theorem xer.e0 {S S' : Sto} {z e pl : Int} (h : xer S S' z e pl) : 0 < e := by unfold xer at h; exact h.2.2.1
theorem xer.xf {S S' : Sto} {z e pl : Int} (h : xer S S' z e pl) : XFs S' := by unfold xer at h; exact h.2.2.2.1
theorem xer.sz {S S' : Sto} {z e pl : Int} (h : xer S S' z e pl) : z ≤ S' 26 9 ∧ S' 26 9 ≤ 1800 := by unfold xer at h; exact h.2.2.2.2.1
theorem xer.lo {S S' : Sto} {z e pl : Int} (h : xer S S' z e pl) : xlow S S' z := by unfold xer at h; exact h.2.2.2.2.2.1
theorem xer.ot {S S' : Sto} {z e pl : Int} (h : xer S S' z e pl) : xoth S S' := by unfold xer at h; exact h.2.2.2.2.2.2
/-- the surroundings of a run -/
def xin (S : Sto) (N p bg z d : Int) : Prop := (S 28 2 = p) ∧ (0 ≤ p) ∧ (p ≤ N) ∧ (S 27 1 = N) ∧ (N ≤ 4096) ∧ (S 27 0 = 134217834) ∧ (∀ i, 0 ≤ i → i < N → -128 ≤ S 134217834 i ∧ S 134217834 i ≤ 127) ∧ (S 26 9 = z) ∧ (0 ≤ bg) ∧ (bg ≤ 1600) ∧ (bg ≤ z ∧ z ≤ bg + 200) ∧ (S 28 7 = d) ∧ (0 ≤ d) ∧ (d ≤ 12) ∧ (XFs S) ∧ (S 28 3 = 0)
theorem xin.mk1 {S : Sto} {N p bg z d : Int} (hp : S 28 2 = p) (h0 : 0 ≤ p) (hN : p ≤ N) (hs : S 27 1 = N) (h4 : N ≤ 4096) (hi : S 27 0 = 134217834) (hby : ∀ i, 0 ≤ i → i < N → -128 ≤ S 134217834 i ∧ S 134217834 i ≤ 127) (hz : S 26 9 = z) (b0 : 0 ≤ bg) (b1 : bg ≤ 1600) (bz : bg ≤ z ∧ z ≤ bg + 200) (hd : S 28 7 = d) (d0 : 0 ≤ d) (d1 : d ≤ 12) (xf : XFs S) (ft : S 28 3 = 0) : xin S N p bg z d := by unfold xin; exact ⟨hp, h0, hN, hs, h4, hi, hby, hz, b0, b1, bz, hd, d0, d1, xf, ft⟩
theorem xin.hp {S : Sto} {N p bg z d : Int} (h : xin S N p bg z d) : S 28 2 = p := by unfold xin at h; exact h.1
theorem xin.h0 {S : Sto} {N p bg z d : Int} (h : xin S N p bg z d) : 0 ≤ p := by unfold xin at h; exact h.2.1
theorem xin.hN {S : Sto} {N p bg z d : Int} (h : xin S N p bg z d) : p ≤ N := by unfold xin at h; exact h.2.2.1
theorem xin.hs {S : Sto} {N p bg z d : Int} (h : xin S N p bg z d) : S 27 1 = N := by unfold xin at h; exact h.2.2.2.1
theorem xin.h4 {S : Sto} {N p bg z d : Int} (h : xin S N p bg z d) : N ≤ 4096 := by unfold xin at h; exact h.2.2.2.2.1
theorem xin.hi {S : Sto} {N p bg z d : Int} (h : xin S N p bg z d) : S 27 0 = 134217834 := by unfold xin at h; exact h.2.2.2.2.2.1
theorem xin.hby {S : Sto} {N p bg z d : Int} (h : xin S N p bg z d) : ∀ i, 0 ≤ i → i < N → -128 ≤ S 134217834 i ∧ S 134217834 i ≤ 127 := by unfold xin at h; exact h.2.2.2.2.2.2.1
theorem xin.hz {S : Sto} {N p bg z d : Int} (h : xin S N p bg z d) : S 26 9 = z := by unfold xin at h; exact h.2.2.2.2.2.2.2.1
theorem xin.b0 {S : Sto} {N p bg z d : Int} (h : xin S N p bg z d) : 0 ≤ bg := by unfold xin at h; exact h.2.2.2.2.2.2.2.2.1
theorem xin.b1 {S : Sto} {N p bg z d : Int} (h : xin S N p bg z d) : bg ≤ 1600 := by unfold xin at h; exact h.2.2.2.2.2.2.2.2.2.1
theorem xin.bz {S : Sto} {N p bg z d : Int} (h : xin S N p bg z d) : bg ≤ z ∧ z ≤ bg + 200 := by unfold xin at h; exact h.2.2.2.2.2.2.2.2.2.2.1
theorem xin.hd {S : Sto} {N p bg z d : Int} (h : xin S N p bg z d) : S 28 7 = d := by unfold xin at h; exact h.2.2.2.2.2.2.2.2.2.2.2.1
theorem xin.d0 {S : Sto} {N p bg z d : Int} (h : xin S N p bg z d) : 0 ≤ d := by unfold xin at h; exact h.2.2.2.2.2.2.2.2.2.2.2.2.1
theorem xin.d1 {S : Sto} {N p bg z d : Int} (h : xin S N p bg z d) : d ≤ 12 := by unfold xin at h; exact h.2.2.2.2.2.2.2.2.2.2.2.2.2.1
theorem xin.xf {S : Sto} {N p bg z d : Int} (h : xin S N p bg z d) : XFs S := by unfold xin at h; exact h.2.2.2.2.2.2.2.2.2.2.2.2.2.2.1
theorem xin.ft {S : Sto} {N p bg z d : Int} (h : xin S N p bg z d) : S 28 3 = 0 := by unfold xin at h; exact h.2.2.2.2.2.2.2.2.2.2.2.2.2.2.2
theorem xoth.b {S S' : Sto} (h : xoth S S') : xB S' = xB S ∧ S' 27 = S 27 ∧ S' 134217834 = S 134217834 := by
  have e := h.2.2 134217834 (by decide) (by decide) (by decide)
  exact ⟨by unfold xB; rw [e], h.2.2 27 (by decide) (by decide) (by decide), e⟩
theorem xin.go {S S' : Sto} {N p bg z d p' z' d' : Int} (h : xin S N p bg z d) (ot : xoth S S') (h1 : S' 28 2 = p') (h2 : 0 ≤ p') (h3 : p' ≤ N) (h4 : S' 26 9 = z') (h5 : bg ≤ z' ∧ z' ≤ bg + 200) (h6 : S' 28 7 = d') (h7 : 0 ≤ d') (h8 : d' ≤ 12) (h9 : XFs S') (h10 : S' 28 3 = 0) : xin S' N p' bg z' d' := by
  obtain ⟨_, b2, b3⟩ := ot.b
  apply xin.mk1
  case hp => exact h1
  case h0 => exact h2
  case hN => exact h3
  case hs => rw [b2]; exact h.hs
  case h4 => exact h.h4
  case hi => rw [b2]; exact h.hi
  case hby => rw [b3]; exact h.hby
  case hz => exact h4
  case b0 => exact h.b0
  case b1 => exact h.b1
  case bz => exact h5
  case hd => exact h6
  case d0 => exact h7
  case d1 => exact h8
  case xf => exact h9
  case ft => exact h10
def xlp (S : Sto) (fm bg : Int) (Q : ZQ) : Prop := zG Cd 206 (Cd 206 34) [(28, 28), (0, fm), (0, bg), (0, 1)] [] S Q
def xend (S : Sto) (fm bg : Int) (Q : ZQ) : Prop := zG Cd 206 (Cd 206 114) [(28, 28), (0, fm), (0, bg), (0, 0)] [] S Q
/-- at a level with so many to come -/
def xLo (N fm bg : Int) (f : Nat) : Prop := ∀ (lv c p z : Int) (S : Sto), xin S N p bg z (lv - 1) → 2 ≤ lv → S 108 (lv - 2) = c → 0 ≤ c → c ≤ 2000 → 201 - (z - bg) ≤ f →
    match rdF (xB S) N f lv c p (z - bg) with
    | .error (e, pl) => ∃ S', (∀ Q, xlp S fm bg Q = xend S' fm bg Q) ∧ xer S S' z e pl
    | .ok (r, p', k') => ∃ S', (∀ Q, xlp S fm bg Q = xlp S' fm bg Q) ∧ xok S S' z (lv - 1) (lv - 2) p' r ∧ S' 108 (lv - 2) = 0
theorem x_pop {S : Sto} (Q : ZQ) {fm bg d a kd c : Int} {ks : F} (h1 : S 28 7 = d + 1) (h2 : 0 ≤ d) (h3 : d ≤ 12) (h4 : S 108 d = 0) (h5 : S 107 d = a) (a0 : 0 ≤ a) (hk : S 98 a = kd) (k4 : 4 ≤ kd) (hv : S 99 a = c) (hc : flen ks = if kd = 5 then 2 * c else c) (c0 : 0 ≤ c) (hs : xseg S (a + 1) ks) (h6 : a + 1 + fsize ks ≤ 1800) (hd : fdep ks ≤ 12) :
    xlp S fm bg Q = xlp (up (up (up S 28 7 d) 101 a (1 + fsize ks)) 102 a (1 + fdep ks)) fm bg Q := by
  have ms := fun Q => x_meas (up S 28 7 d) Q a kd c ks a0 (by simp (disch := omega) only [true_and, and_true, and_self, if_true, if_false, ite_true, ite_false, reduceIte, Int.reduceEq, Int.reduceNe, Int.reduceLT, Int.reduceLE, Int.reduceAdd, Int.reduceSub, Int.reduceMul, Int.reduceNeg, Int.reduceMod, Int.reduceDiv, Int.reduceToNat, Nat.reduceAdd, Nat.reduceLeDiff, List.length_cons, List.length_nil, not_false_eq_true, not_true_eq_false, ne_eq, or_false, false_or, or_self, false_and, and_false, or_true, true_or, ite_self, Int.add_sub_cancel, Int.sub_add_cancel, b_lc1, b_lc2, b_lc3, b_lc4, b_lc5, up_eq, up_ei, up_n1, up_n2, W32i, W8i, W16i, W64i, if_ps, if_ng, and_tr, fil_n1, fil_in, fil_out, hk]) k4 (by simp (disch := omega) only [true_and, and_true, and_self, if_true, if_false, ite_true, ite_false, reduceIte, Int.reduceEq, Int.reduceNe, Int.reduceLT, Int.reduceLE, Int.reduceAdd, Int.reduceSub, Int.reduceMul, Int.reduceNeg, Int.reduceMod, Int.reduceDiv, Int.reduceToNat, Nat.reduceAdd, Nat.reduceLeDiff, List.length_cons, List.length_nil, not_false_eq_true, not_true_eq_false, ne_eq, or_false, false_or, or_self, false_and, and_false, or_true, true_or, ite_self, Int.add_sub_cancel, Int.sub_add_cancel, b_lc1, b_lc2, b_lc3, b_lc4, b_lc5, up_eq, up_ei, up_n1, up_n2, W32i, W8i, W16i, W64i, if_ps, if_ng, and_tr, fil_n1, fil_in, fil_out, hv]) hc c0 (xseg_cg ks _ (fun i _ _ => by simp (disch := omega) only [true_and, and_true, and_self, if_true, if_false, ite_true, ite_false, reduceIte, Int.reduceEq, Int.reduceNe, Int.reduceLT, Int.reduceLE, Int.reduceAdd, Int.reduceSub, Int.reduceMul, Int.reduceNeg, Int.reduceMod, Int.reduceDiv, Int.reduceToNat, Nat.reduceAdd, Nat.reduceLeDiff, List.length_cons, List.length_nil, not_false_eq_true, not_true_eq_false, ne_eq, or_false, false_or, or_self, false_and, and_false, or_true, true_or, ite_self, Int.add_sub_cancel, Int.sub_add_cancel, b_lc1, b_lc2, b_lc3, b_lc4, b_lc5, up_eq, up_ei, up_n1, up_n2, W32i, W8i, W16i, W64i, if_ps, if_ng, and_tr, fil_n1, fil_in, fil_out]; intros; trivial) hs) h6 hd
  unfold xlp
  conv => lhs; rw [L206_34]
  simp (disch := omega) only [bcd, true_and, and_true, and_self, if_true, if_false, ite_true, ite_false, reduceIte, Int.reduceEq, Int.reduceNe, Int.reduceLT, Int.reduceLE, Int.reduceAdd, Int.reduceSub, Int.reduceMul, Int.reduceNeg, Int.reduceMod, Int.reduceDiv, Int.reduceToNat, Nat.reduceAdd, Nat.reduceLeDiff, List.length_cons, List.length_nil, not_false_eq_true, not_true_eq_false, ne_eq, or_false, false_or, or_self, false_and, and_false, or_true, true_or, ite_self, Int.add_sub_cancel, Int.sub_add_cancel, b_lc1, b_lc2, b_lc3, b_lc4, b_lc5, up_eq, up_ei, up_n1, up_n2, W32i, W8i, W16i, W64i, if_ps, if_ng, and_tr, fil_n1, fil_in, fil_out, le_tt, le_ff, lt_tt, lt_ff, eq_tt, eq_ff, M206, h1, h4, h5, ms]
/-- a node that was read, with all that is within it -/
theorem x_step {N fm bg : Int} {f : Nat} (IH : xLo N fm bg f) {S0 S S1 : Sto} {p z d lv kd v p1 n p2 val num nX : Int} {tx : List Int} (hin : xin S N p bg z d) (hl : lv = d + 1) (d12 : d < 12) (k200 : z - bg < 200) (hf : 200 - (z - bg) ≤ f) (hh : rdH (xB S) N p (-1) = .ok (kd, v, p1)) (zn : znum kd v) (hb : rdB (xB S) N kd v p1 = .ok (tx, n, p2)) (hnum : num = if kd = 6 then zntg 6 v else 0) (nd : xN S bg z (zxk (zfm kd)) val num tx p2 S1) (st : xst S S1 z d (zxk (zfm kd)) nX) (xv : xval kd v n val nX) :
    match rdF (xB S) N f (lv + 1) n p2 (z - bg + 1) with
    | .error (e, pl) => ∃ S', (∀ Q, xlp S1 fm bg Q = xend S' fm bg Q) ∧ xer S S' z e pl
    | .ok (ks, p3, k3) => ∃ S', (∀ Q, xlp S1 fm bg Q = xlp S' fm bg Q) ∧ xok S S' z d d p3 (fcons (zfm kd) (zntg kd v) tx ks .leaf) := by
  have hB := xB_by S N
  obtain ⟨b1, b2, b3, b4⟩ := rdB_ok hB hin.h0 hin.hN hh zn hb
  obtain ⟨s1, s2, s3, s4, s5, s6, s7, s8⟩ := rdH_sound hB hin.h0 hin.hN hh
  have bz := hin.bz
  have bb := hin.b1
  have b00 := hin.b0
  have hp0 := hin.h0
  have hkd : kd = 0 ∨ kd = 1 ∨ kd = 2 ∨ kd = 4 ∨ kd = 5 ∨ kd = 6 := by omega
  obtain ⟨f', rfl⟩ : ∃ f', f = f' + 1 := ⟨f - 1, by omega⟩
  by_cases c4 : kd < 4
  · /- nothing within -/
    have n0 : n = 0 := by
      unfold rdB at hb
      split at hb
      · simp only [Except.ok.injEq, Prod.mk.injEq] at hb; omega
      · split at hb
        · split at hb
          · cases hb
          · simp only [Except.ok.injEq, Prod.mk.injEq] at hb; omega
        · omega
    subst n0
    rw [rdF, if_pos rfl]
    have bf := (b4 .leaf rfl (by omega)).1
    refine ⟨S1, fun Q => rfl, ?_⟩
    have k4 : zxk (zfm kd) < 4 := by rcases hkd with rfl | rfl | rfl | rfl | rfl | rfl <;> first | decide | omega
    rcases st with ⟨_, t1, t2, t3⟩ | ⟨t0, _⟩
    · apply xok.mk1
      case ft => exact nd.ft
      case plc => exact nd.plc
      case at1 => exact nd.at1
      case xf => exact nd.xf
      case sz => rw [nd.sz]; rfl
      case lo => exact nd.lo
      case ot => exact nd.ot
      case dp => exact t1
      case op => intro i _; rw [t2]
      case lf => intro i _; rw [t3]
      case sg =>
        refine ⟨⟨nd.ki, ?_, ?_, nd.si, nd.de, ?_⟩, trivial, trivial⟩
        · rw [nd.va]
          rcases hkd with rfl | rfl | rfl | rfl | rfl | rfl
          · rw [xv.1 (by decide)]; rfl
          · rw [xv.1 (by decide)]; rfl
          · rw [xv.2.1 rfl]
            show v = (tx.length : Int)
            have zz := zn.2.1 rfl
            unfold rdB at hb
            rw [if_neg (by decide), if_pos rfl] at hb
            split at hb
            · cases hb
            · simp only [Except.ok.injEq, Prod.mk.injEq] at hb
              rw [← hb.1, ztxt_len]; omega
          · omega
          · omega
          · omega
        · rw [nd.nu, hnum]
          rcases hkd with rfl | rfl | rfl | rfl | rfl | rfl <;> first | rfl | omega
        · intro q
          refine ⟨(bf.2.2.2.1 q).2.1, nd.te ?_⟩
          rw [q]; rfl
    · omega
  · have k4 : zxk (zfm kd) = kd := by rcases hkd with rfl | rfl | rfl | rfl | rfl | rfl <;> first | rfl | omega
    rw [k4] at nd st
    rcases st with ⟨t0, _⟩ | ⟨_, t1, t2, t3⟩
    · omega
    obtain ⟨w, x1, x2, x3⟩ := xv.2.2 (by omega)
    obtain ⟨ob1, ob2, ob3⟩ := nd.ot.b
    have in1 : xin S1 N p2 bg (z + 1) (d + 1) := hin.go nd.ot nd.at1 (by omega) b2 nd.sz (by omega) t1 (by have := hin.d0; omega) (by omega) nd.xf (by rw [nd.ft]; exact hin.ft)
    have l1 : S1 108 (lv + 1 - 2) = nX := by rw [t3]; exact fset_e _ _ _ _ (by omega)
    have cx : 0 ≤ zcx w ∧ zcx w ≤ 400 := by unfold zcx; split <;> omega
    have nb : 0 ≤ nX ∧ nX ≤ 2000 := by rw [x2]; split <;> omega
    have I := IH (lv + 1) nX p2 (z + 1) S1 (by rw [show lv + 1 - 1 = d + 1 by omega]; exact in1) (by have := hin.d0; omega) l1 nb.1 nb.2 (by omega)
    rw [ob1, show z + 1 - bg = z - bg + 1 by omega] at I
    have eqn : rdF (xB S) N (f' + 1) (lv + 1) nX p2 (z - bg + 1) = rdF (xB S) N (f' + 1) (lv + 1) n p2 (z - bg + 1) := by
      by_cases q : w < 0 ∨ 200 < w
      · apply rdF_big hB _ _ _ _ _ _ (by omega) b2 (by omega) (by omega)
        · rw [x2]; unfold zcx; rw [if_pos q]; split <;> omega
        · rw [x3]; unfold zcap; split <;> split <;> omega
      · have : nX = n := by
          have e1 : zcx w = w := by unfold zcx; rw [if_neg q]
          have e2 : zcap w = w := by unfold zcap; rw [if_neg (by omega)]
          rw [x2, x3, e1, e2]
        rw [this]
    rw [eqn] at I
    cases hk : rdF (xB S) N (f' + 1) (lv + 1) n p2 (z - bg + 1) with
    | error ep =>
      obtain ⟨e, pl⟩ := ep
      rw [hk] at I
      obtain ⟨S2, r2, er⟩ := I
      refine ⟨S2, r2, ?_⟩
      apply xer.mk1
      case ft => exact er.ft
      case plc => exact er.plc
      case e0 => exact er.e0
      case xf => exact er.xf
      case sz => have := er.sz; omega
      case lo => exact nd.lo.tr er.lo (by omega)
      case ot => exact nd.ot.tr er.ot
    | ok kpk =>
      obtain ⟨ks, p3, k3⟩ := kpk
      rw [hk] at I
      obtain ⟨S2, r2, ok, l2⟩ := I
      obtain ⟨q1, q2, q3, q4, q5, q6, q7⟩ := rdF_ok hB _ _ _ _ _ _ _ _ (by omega) b2 b3 (by omega) (by omega) hk
      have fs := fsize0 ks
      have ln := flen_le ks
      have dz := fdep0 ks
      have dd := fval_dep ks (lv + 1) q7 (by omega)
      have w200 : ¬ (w < 0 ∨ 200 < w) := by
        intro q
        have : 201 ≤ n := by rw [x3]; unfold zcap; split <;> split <;> omega
        omega
      have cw : zcx w = w ∧ zcap w = w := by unfold zcx zcap; rw [if_neg w200, if_neg (by omega)]; exact ⟨rfl, rfl⟩
      rw [cw.1] at x1 x2
      rw [cw.2] at x3
      obtain ⟨f1, f2, f3, f4, f5, f6, f7⟩ := ok.lo z (by omega) (by omega)
      have hd0 := hin.d0
      have pop := fun Q => x_pop (S := S2) Q (fm := fm) (bg := bg) (d := d) (a := z) (kd := kd) (c := w) (ks := ks) (by rw [ok.dp]; omega) hd0 (by omega) (by rw [show lv + 1 - 2 = d by omega] at l2; exact l2) (by rw [ok.op d (by omega), t2]; exact fset_e _ _ _ _ rfl) (by omega) (by rw [f1]; exact nd.ki) (by omega) (by rw [f2, nd.va]; exact x1) (by rw [q1]; exact x3) (by omega) ok.sg (by omega) (by omega)
      refine ⟨up (up (up S2 28 7 d) 101 z (1 + fsize ks)) 102 z (1 + fdep ks), fun Q => by rw [r2, pop], ?_⟩
      obtain ⟨bn1, bn2⟩ := b4 ks q1 (by omega)
      apply xok.mk1
      case ft => simp (disch := omega) only [true_and, and_true, and_self, if_true, if_false, ite_true, ite_false, reduceIte, Int.reduceEq, Int.reduceNe, Int.reduceLT, Int.reduceLE, Int.reduceAdd, Int.reduceSub, Int.reduceMul, Int.reduceNeg, Int.reduceMod, Int.reduceDiv, Int.reduceToNat, Nat.reduceAdd, Nat.reduceLeDiff, List.length_cons, List.length_nil, not_false_eq_true, not_true_eq_false, ne_eq, or_false, false_or, or_self, false_and, and_false, or_true, true_or, ite_self, Int.add_sub_cancel, Int.sub_add_cancel, b_lc1, b_lc2, b_lc3, b_lc4, b_lc5, up_eq, up_ei, up_n1, up_n2, W32i, W8i, W16i, W64i, if_ps, if_ng, and_tr, fil_n1, fil_in, fil_out]; rw [ok.ft, nd.ft]
      case plc => simp (disch := omega) only [true_and, and_true, and_self, if_true, if_false, ite_true, ite_false, reduceIte, Int.reduceEq, Int.reduceNe, Int.reduceLT, Int.reduceLE, Int.reduceAdd, Int.reduceSub, Int.reduceMul, Int.reduceNeg, Int.reduceMod, Int.reduceDiv, Int.reduceToNat, Nat.reduceAdd, Nat.reduceLeDiff, List.length_cons, List.length_nil, not_false_eq_true, not_true_eq_false, ne_eq, or_false, false_or, or_self, false_and, and_false, or_true, true_or, ite_self, Int.add_sub_cancel, Int.sub_add_cancel, b_lc1, b_lc2, b_lc3, b_lc4, b_lc5, up_eq, up_ei, up_n1, up_n2, W32i, W8i, W16i, W64i, if_ps, if_ng, and_tr, fil_n1, fil_in, fil_out]; rw [ok.plc, nd.plc]
      case at1 => simp (disch := omega) only [true_and, and_true, and_self, if_true, if_false, ite_true, ite_false, reduceIte, Int.reduceEq, Int.reduceNe, Int.reduceLT, Int.reduceLE, Int.reduceAdd, Int.reduceSub, Int.reduceMul, Int.reduceNeg, Int.reduceMod, Int.reduceDiv, Int.reduceToNat, Nat.reduceAdd, Nat.reduceLeDiff, List.length_cons, List.length_nil, not_false_eq_true, not_true_eq_false, ne_eq, or_false, false_or, or_self, false_and, and_false, or_true, true_or, ite_self, Int.add_sub_cancel, Int.sub_add_cancel, b_lc1, b_lc2, b_lc3, b_lc4, b_lc5, up_eq, up_ei, up_n1, up_n2, W32i, W8i, W16i, W64i, if_ps, if_ng, and_tr, fil_n1, fil_in, fil_out]; exact ok.at1
      case xf =>
        have := ok.xf
        unfold XFs at this ⊢
        simp (disch := omega) only [true_and, and_true, and_self, if_true, if_false, ite_true, ite_false, reduceIte, Int.reduceEq, Int.reduceNe, Int.reduceLT, Int.reduceLE, Int.reduceAdd, Int.reduceSub, Int.reduceMul, Int.reduceNeg, Int.reduceMod, Int.reduceDiv, Int.reduceToNat, Nat.reduceAdd, Nat.reduceLeDiff, List.length_cons, List.length_nil, not_false_eq_true, not_true_eq_false, ne_eq, or_false, false_or, or_self, false_and, and_false, or_true, true_or, ite_self, Int.add_sub_cancel, Int.sub_add_cancel, b_lc1, b_lc2, b_lc3, b_lc4, b_lc5, up_eq, up_ei, up_n1, up_n2, W32i, W8i, W16i, W64i, if_ps, if_ng, and_tr, fil_n1, fil_in, fil_out, up_fn]
        exact this
      case sz => simp (disch := omega) only [true_and, and_true, and_self, if_true, if_false, ite_true, ite_false, reduceIte, Int.reduceEq, Int.reduceNe, Int.reduceLT, Int.reduceLE, Int.reduceAdd, Int.reduceSub, Int.reduceMul, Int.reduceNeg, Int.reduceMod, Int.reduceDiv, Int.reduceToNat, Nat.reduceAdd, Nat.reduceLeDiff, List.length_cons, List.length_nil, not_false_eq_true, not_true_eq_false, ne_eq, or_false, false_or, or_self, false_and, and_false, or_true, true_or, ite_self, Int.add_sub_cancel, Int.sub_add_cancel, b_lc1, b_lc2, b_lc3, b_lc4, b_lc5, up_eq, up_ei, up_n1, up_n2, W32i, W8i, W16i, W64i, if_ps, if_ng, and_tr, fil_n1, fil_in, fil_out]; rw [ok.sz]; simp only [fcons, fsize]; omega
      case lo =>
        refine (nd.lo.tr ok.lo (by omega)).tr (z' := z) ?_ (by omega)
        intro i a b
        simp (disch := omega) only [true_and, and_true, and_self, if_true, if_false, ite_true, ite_false, reduceIte, Int.reduceEq, Int.reduceNe, Int.reduceLT, Int.reduceLE, Int.reduceAdd, Int.reduceSub, Int.reduceMul, Int.reduceNeg, Int.reduceMod, Int.reduceDiv, Int.reduceToNat, Nat.reduceAdd, Nat.reduceLeDiff, List.length_cons, List.length_nil, not_false_eq_true, not_true_eq_false, ne_eq, or_false, false_or, or_self, false_and, and_false, or_true, true_or, ite_self, Int.add_sub_cancel, Int.sub_add_cancel, b_lc1, b_lc2, b_lc3, b_lc4, b_lc5, up_eq, up_ei, up_n1, up_n2, W32i, W8i, W16i, W64i, if_ps, if_ng, and_tr, fil_n1, fil_in, fil_out]
        intros; trivial
      case ot =>
        refine (nd.ot.tr ok.ot).tr ⟨fun f a b c d e i j => by simp (disch := omega) only [true_and, and_true, and_self, if_true, if_false, ite_true, ite_false, reduceIte, Int.reduceEq, Int.reduceNe, Int.reduceLT, Int.reduceLE, Int.reduceAdd, Int.reduceSub, Int.reduceMul, Int.reduceNeg, Int.reduceMod, Int.reduceDiv, Int.reduceToNat, Nat.reduceAdd, Nat.reduceLeDiff, List.length_cons, List.length_nil, not_false_eq_true, not_true_eq_false, ne_eq, or_false, false_or, or_self, false_and, and_false, or_true, true_or, ite_self, Int.add_sub_cancel, Int.sub_add_cancel, b_lc1, b_lc2, b_lc3, b_lc4, b_lc5, up_eq, up_ei, up_n1, up_n2, W32i, W8i, W16i, W64i, if_ps, if_ng, and_tr, fil_n1, fil_in, fil_out], fun f a b => by simp (disch := omega) only [true_and, and_true, and_self, if_true, if_false, ite_true, ite_false, reduceIte, Int.reduceEq, Int.reduceNe, Int.reduceLT, Int.reduceLE, Int.reduceAdd, Int.reduceSub, Int.reduceMul, Int.reduceNeg, Int.reduceMod, Int.reduceDiv, Int.reduceToNat, Nat.reduceAdd, Nat.reduceLeDiff, List.length_cons, List.length_nil, not_false_eq_true, not_true_eq_false, ne_eq, or_false, false_or, or_self, false_and, and_false, or_true, true_or, ite_self, Int.add_sub_cancel, Int.sub_add_cancel, b_lc1, b_lc2, b_lc3, b_lc4, b_lc5, up_eq, up_ei, up_n1, up_n2, W32i, W8i, W16i, W64i, if_ps, if_ng, and_tr, fil_n1, fil_in, fil_out], fun b x y zz => ?_⟩
        rw [up_fn _ _ _ _ _ (by omega), up_fn _ _ _ _ _ (by omega), up_fn _ _ _ _ _ (by omega)]
      case dp => simp (disch := omega) only [true_and, and_true, and_self, if_true, if_false, ite_true, ite_false, reduceIte, Int.reduceEq, Int.reduceNe, Int.reduceLT, Int.reduceLE, Int.reduceAdd, Int.reduceSub, Int.reduceMul, Int.reduceNeg, Int.reduceMod, Int.reduceDiv, Int.reduceToNat, Nat.reduceAdd, Nat.reduceLeDiff, List.length_cons, List.length_nil, not_false_eq_true, not_true_eq_false, ne_eq, or_false, false_or, or_self, false_and, and_false, or_true, true_or, ite_self, Int.add_sub_cancel, Int.sub_add_cancel, b_lc1, b_lc2, b_lc3, b_lc4, b_lc5, up_eq, up_ei, up_n1, up_n2, W32i, W8i, W16i, W64i, if_ps, if_ng, and_tr, fil_n1, fil_in, fil_out]
      case op => intro i hi; simp (disch := omega) only [true_and, and_true, and_self, if_true, if_false, ite_true, ite_false, reduceIte, Int.reduceEq, Int.reduceNe, Int.reduceLT, Int.reduceLE, Int.reduceAdd, Int.reduceSub, Int.reduceMul, Int.reduceNeg, Int.reduceMod, Int.reduceDiv, Int.reduceToNat, Nat.reduceAdd, Nat.reduceLeDiff, List.length_cons, List.length_nil, not_false_eq_true, not_true_eq_false, ne_eq, or_false, false_or, or_self, false_and, and_false, or_true, true_or, ite_self, Int.add_sub_cancel, Int.sub_add_cancel, b_lc1, b_lc2, b_lc3, b_lc4, b_lc5, up_eq, up_ei, up_n1, up_n2, W32i, W8i, W16i, W64i, if_ps, if_ng, and_tr, fil_n1, fil_in, fil_out]; rw [ok.op i (by omega), t2]; exact fset_n _ _ _ _ (by omega)
      case lf => intro i hi; simp (disch := omega) only [true_and, and_true, and_self, if_true, if_false, ite_true, ite_false, reduceIte, Int.reduceEq, Int.reduceNe, Int.reduceLT, Int.reduceLE, Int.reduceAdd, Int.reduceSub, Int.reduceMul, Int.reduceNeg, Int.reduceMod, Int.reduceDiv, Int.reduceToNat, Nat.reduceAdd, Nat.reduceLeDiff, List.length_cons, List.length_nil, not_false_eq_true, not_true_eq_false, ne_eq, or_false, false_or, or_self, false_and, and_false, or_true, true_or, ite_self, Int.add_sub_cancel, Int.sub_add_cancel, b_lc1, b_lc2, b_lc3, b_lc4, b_lc5, up_eq, up_ei, up_n1, up_n2, W32i, W8i, W16i, W64i, if_ps, if_ng, and_tr, fil_n1, fil_in, fil_out]; rw [ok.lf i (by omega), t3]; exact fset_n _ _ _ _ (by omega)
      case sg =>
        have txn : tx = [] := by
          apply bn1.2.2.2.2.2.2.2
          rcases hkd with rfl | rfl | rfl | rfl | rfl | rfl <;> first | decide | omega
        have fm34 : zfm kd ≠ 3 ∧ zfm kd ≠ 4 := by rcases hkd with rfl | rfl | rfl | rfl | rfl | rfl <;> first | decide | omega
        refine ⟨⟨?_, ?_, ?_, ?_, ?_, fun q => absurd q fm34.2⟩, ?_, trivial⟩
        · simp (disch := omega) only [true_and, and_true, and_self, if_true, if_false, ite_true, ite_false, reduceIte, Int.reduceEq, Int.reduceNe, Int.reduceLT, Int.reduceLE, Int.reduceAdd, Int.reduceSub, Int.reduceMul, Int.reduceNeg, Int.reduceMod, Int.reduceDiv, Int.reduceToNat, Nat.reduceAdd, Nat.reduceLeDiff, List.length_cons, List.length_nil, not_false_eq_true, not_true_eq_false, ne_eq, or_false, false_or, or_self, false_and, and_false, or_true, true_or, ite_self, Int.add_sub_cancel, Int.sub_add_cancel, b_lc1, b_lc2, b_lc3, b_lc4, b_lc5, up_eq, up_ei, up_n1, up_n2, W32i, W8i, W16i, W64i, if_ps, if_ng, and_tr, fil_n1, fil_in, fil_out]; rw [f1, nd.ki, k4]
        · simp (disch := omega) only [true_and, and_true, and_self, if_true, if_false, ite_true, ite_false, reduceIte, Int.reduceEq, Int.reduceNe, Int.reduceLT, Int.reduceLE, Int.reduceAdd, Int.reduceSub, Int.reduceMul, Int.reduceNeg, Int.reduceMod, Int.reduceDiv, Int.reduceToNat, Nat.reduceAdd, Nat.reduceLeDiff, List.length_cons, List.length_nil, not_false_eq_true, not_true_eq_false, ne_eq, or_false, false_or, or_self, false_and, and_false, or_true, true_or, ite_self, Int.add_sub_cancel, Int.sub_add_cancel, b_lc1, b_lc2, b_lc3, b_lc4, b_lc5, up_eq, up_ei, up_n1, up_n2, W32i, W8i, W16i, W64i, if_ps, if_ng, and_tr, fil_n1, fil_in, fil_out]
          rw [f2, nd.va, x1]
          try rw [if_neg fm34.1]
          unfold zct
          rw [if_neg fm34.2]
          rcases hkd with rfl | rfl | rfl | rfl | rfl | rfl
          · omega
          · omega
          · omega
          · show w = flen ks; rw [q1, x3]; rfl
          · show w = flen ks / 2
            have : n = 2 * w := x3
            omega
          · show w = flen ks; rw [q1, x3]; rfl
        · simp (disch := omega) only [true_and, and_true, and_self, if_true, if_false, ite_true, ite_false, reduceIte, Int.reduceEq, Int.reduceNe, Int.reduceLT, Int.reduceLE, Int.reduceAdd, Int.reduceSub, Int.reduceMul, Int.reduceNeg, Int.reduceMod, Int.reduceDiv, Int.reduceToNat, Nat.reduceAdd, Nat.reduceLeDiff, List.length_cons, List.length_nil, not_false_eq_true, not_true_eq_false, ne_eq, or_false, false_or, or_self, false_and, and_false, or_true, true_or, ite_self, Int.add_sub_cancel, Int.sub_add_cancel, b_lc1, b_lc2, b_lc3, b_lc4, b_lc5, up_eq, up_ei, up_n1, up_n2, W32i, W8i, W16i, W64i, if_ps, if_ng, and_tr, fil_n1, fil_in, fil_out]; rw [f3, nd.nu, hnum]
          rcases hkd with rfl | rfl | rfl | rfl | rfl | rfl <;> first | rfl | omega
        · simp (disch := omega) only [true_and, and_true, and_self, if_true, if_false, ite_true, ite_false, reduceIte, Int.reduceEq, Int.reduceNe, Int.reduceLT, Int.reduceLE, Int.reduceAdd, Int.reduceSub, Int.reduceMul, Int.reduceNeg, Int.reduceMod, Int.reduceDiv, Int.reduceToNat, Nat.reduceAdd, Nat.reduceLeDiff, List.length_cons, List.length_nil, not_false_eq_true, not_true_eq_false, ne_eq, or_false, false_or, or_self, false_and, and_false, or_true, true_or, ite_self, Int.add_sub_cancel, Int.sub_add_cancel, b_lc1, b_lc2, b_lc3, b_lc4, b_lc5, up_eq, up_ei, up_n1, up_n2, W32i, W8i, W16i, W64i, if_ps, if_ng, and_tr, fil_n1, fil_in, fil_out]
        · simp (disch := omega) only [true_and, and_true, and_self, if_true, if_false, ite_true, ite_false, reduceIte, Int.reduceEq, Int.reduceNe, Int.reduceLT, Int.reduceLE, Int.reduceAdd, Int.reduceSub, Int.reduceMul, Int.reduceNeg, Int.reduceMod, Int.reduceDiv, Int.reduceToNat, Nat.reduceAdd, Nat.reduceLeDiff, List.length_cons, List.length_nil, not_false_eq_true, not_true_eq_false, ne_eq, or_false, false_or, or_self, false_and, and_false, or_true, true_or, ite_self, Int.add_sub_cancel, Int.sub_add_cancel, b_lc1, b_lc2, b_lc3, b_lc4, b_lc5, up_eq, up_ei, up_n1, up_n2, W32i, W8i, W16i, W64i, if_ps, if_ng, and_tr, fil_n1, fil_in, fil_out]
        · apply xseg_cg ks _ _ ok.sg
          intro i a b
          simp (disch := omega) only [true_and, and_true, and_self, if_true, if_false, ite_true, ite_false, reduceIte, Int.reduceEq, Int.reduceNe, Int.reduceLT, Int.reduceLE, Int.reduceAdd, Int.reduceSub, Int.reduceMul, Int.reduceNeg, Int.reduceMod, Int.reduceDiv, Int.reduceToNat, Nat.reduceAdd, Nat.reduceLeDiff, List.length_cons, List.length_nil, not_false_eq_true, not_true_eq_false, ne_eq, or_false, false_or, or_self, false_and, and_false, or_true, true_or, ite_self, Int.add_sub_cancel, Int.sub_add_cancel, b_lc1, b_lc2, b_lc3, b_lc4, b_lc5, up_eq, up_ei, up_n1, up_n2, W32i, W8i, W16i, W64i, if_ps, if_ng, and_tr, fil_n1, fil_in, fil_out]
          intros; trivial
theorem x_loop {N fm bg : Int} : ∀ f, xLo N fm bg f := by
  intro f
  induction f with
  | zero => intro lv c p z S hin; have := hin.bz; intros; omega
  | succ f ih =>
    intro lv c p z S hin hl h1 h2 h3 h4
    have hB := xB_by S N
    have bz := hin.bz
    have bb := hin.b1
    have b00 := hin.b0
    have d1 := hin.d1
    rw [rdF]
    by_cases c0 : c = 0
    · rw [if_pos c0]
      refine ⟨S, fun Q => rfl, ?_, by omega⟩
      apply xok.mk1
      case ft => rfl
      case plc => rfl
      case at1 => exact hin.hp
      case xf => exact hin.xf
      case sz => rw [hin.hz]; show z = z + 0; omega
      case lo => intro i _ _; exact ⟨rfl, rfl, rfl, rfl, rfl, rfl, fun _ _ _ _ => rfl⟩
      case ot => exact ⟨fun _ _ _ _ _ _ _ _ => rfl, fun _ _ _ => rfl, fun _ _ _ _ => rfl⟩
      case dp => exact hin.hd
      case op => intros; rfl
      case lf => intros; rfl
      case sg => trivial
    · rw [if_neg c0]
      obtain ⟨S0, hS0⟩ : ∃ S0, S0 = up S 108 (lv - 2) (c - 1) := ⟨_, rfl⟩
      have ot0 : xoth S S0 := by
        rw [hS0]
        exact ⟨fun f _ _ _ _ _ _ _ => by simp (disch := omega) only [true_and, and_true, and_self, if_true, if_false, ite_true, ite_false, reduceIte, Int.reduceEq, Int.reduceNe, Int.reduceLT, Int.reduceLE, Int.reduceAdd, Int.reduceSub, Int.reduceMul, Int.reduceNeg, Int.reduceMod, Int.reduceDiv, Int.reduceToNat, Nat.reduceAdd, Nat.reduceLeDiff, List.length_cons, List.length_nil, not_false_eq_true, not_true_eq_false, ne_eq, or_false, false_or, or_self, false_and, and_false, or_true, true_or, ite_self, Int.add_sub_cancel, Int.sub_add_cancel, b_lc1, b_lc2, b_lc3, b_lc4, b_lc5, up_eq, up_ei, up_n1, up_n2, W32i, W8i, W16i, W64i, if_ps, if_ng, and_tr, fil_n1, fil_in, fil_out], fun f _ _ => by simp (disch := omega) only [true_and, and_true, and_self, if_true, if_false, ite_true, ite_false, reduceIte, Int.reduceEq, Int.reduceNe, Int.reduceLT, Int.reduceLE, Int.reduceAdd, Int.reduceSub, Int.reduceMul, Int.reduceNeg, Int.reduceMod, Int.reduceDiv, Int.reduceToNat, Nat.reduceAdd, Nat.reduceLeDiff, List.length_cons, List.length_nil, not_false_eq_true, not_true_eq_false, ne_eq, or_false, false_or, or_self, false_and, and_false, or_true, true_or, ite_self, Int.add_sub_cancel, Int.sub_add_cancel, b_lc1, b_lc2, b_lc3, b_lc4, b_lc5, up_eq, up_ei, up_n1, up_n2, W32i, W8i, W16i, W64i, if_ps, if_ng, and_tr, fil_n1, fil_in, fil_out], fun b _ _ zz => up_fn _ _ _ _ _ (by omega)⟩
      have lo0 : xlow S S0 z := by
        rw [hS0]
        intro i _ _
        simp (disch := omega) only [true_and, and_true, and_self, if_true, if_false, ite_true, ite_false, reduceIte, Int.reduceEq, Int.reduceNe, Int.reduceLT, Int.reduceLE, Int.reduceAdd, Int.reduceSub, Int.reduceMul, Int.reduceNeg, Int.reduceMod, Int.reduceDiv, Int.reduceToNat, Nat.reduceAdd, Nat.reduceLeDiff, List.length_cons, List.length_nil, not_false_eq_true, not_true_eq_false, ne_eq, or_false, false_or, or_self, false_and, and_false, or_true, true_or, ite_self, Int.add_sub_cancel, Int.sub_add_cancel, b_lc1, b_lc2, b_lc3, b_lc4, b_lc5, up_eq, up_ei, up_n1, up_n2, W32i, W8i, W16i, W64i, if_ps, if_ng, and_tr, fil_n1, fil_in, fil_out]
        intros; trivial
      have xf0 : XFs S0 := by
        have := hin.xf
        rw [hS0]
        unfold XFs at this ⊢
        simp (disch := omega) only [true_and, and_true, and_self, if_true, if_false, ite_true, ite_false, reduceIte, Int.reduceEq, Int.reduceNe, Int.reduceLT, Int.reduceLE, Int.reduceAdd, Int.reduceSub, Int.reduceMul, Int.reduceNeg, Int.reduceMod, Int.reduceDiv, Int.reduceToNat, Nat.reduceAdd, Nat.reduceLeDiff, List.length_cons, List.length_nil, not_false_eq_true, not_true_eq_false, ne_eq, or_false, false_or, or_self, false_and, and_false, or_true, true_or, ite_self, Int.add_sub_cancel, Int.sub_add_cancel, b_lc1, b_lc2, b_lc3, b_lc4, b_lc5, up_eq, up_ei, up_n1, up_n2, W32i, W8i, W16i, W64i, if_ps, if_ng, and_tr, fil_n1, fil_in, fil_out, up_fn]
        exact this
      have in0 : xin S0 N p bg z (lv - 1) := hin.go ot0 (by rw [hS0]; simp (disch := omega) only [true_and, and_true, and_self, if_true, if_false, ite_true, ite_false, reduceIte, Int.reduceEq, Int.reduceNe, Int.reduceLT, Int.reduceLE, Int.reduceAdd, Int.reduceSub, Int.reduceMul, Int.reduceNeg, Int.reduceMod, Int.reduceDiv, Int.reduceToNat, Nat.reduceAdd, Nat.reduceLeDiff, List.length_cons, List.length_nil, not_false_eq_true, not_true_eq_false, ne_eq, or_false, false_or, or_self, false_and, and_false, or_true, true_or, ite_self, Int.add_sub_cancel, Int.sub_add_cancel, b_lc1, b_lc2, b_lc3, b_lc4, b_lc5, up_eq, up_ei, up_n1, up_n2, W32i, W8i, W16i, W64i, if_ps, if_ng, and_tr, fil_n1, fil_in, fil_out]; exact hin.hp) hin.h0 hin.hN (by rw [hS0]; simp (disch := omega) only [true_and, and_true, and_self, if_true, if_false, ite_true, ite_false, reduceIte, Int.reduceEq, Int.reduceNe, Int.reduceLT, Int.reduceLE, Int.reduceAdd, Int.reduceSub, Int.reduceMul, Int.reduceNeg, Int.reduceMod, Int.reduceDiv, Int.reduceToNat, Nat.reduceAdd, Nat.reduceLeDiff, List.length_cons, List.length_nil, not_false_eq_true, not_true_eq_false, ne_eq, or_false, false_or, or_self, false_and, and_false, or_true, true_or, ite_self, Int.add_sub_cancel, Int.sub_add_cancel, b_lc1, b_lc2, b_lc3, b_lc4, b_lc5, up_eq, up_ei, up_n1, up_n2, W32i, W8i, W16i, W64i, if_ps, if_ng, and_tr, fil_n1, fil_in, fil_out]; exact hin.hz) bz (by rw [hS0]; simp (disch := omega) only [true_and, and_true, and_self, if_true, if_false, ite_true, ite_false, reduceIte, Int.reduceEq, Int.reduceNe, Int.reduceLT, Int.reduceLE, Int.reduceAdd, Int.reduceSub, Int.reduceMul, Int.reduceNeg, Int.reduceMod, Int.reduceDiv, Int.reduceToNat, Nat.reduceAdd, Nat.reduceLeDiff, List.length_cons, List.length_nil, not_false_eq_true, not_true_eq_false, ne_eq, or_false, false_or, or_self, false_and, and_false, or_true, true_or, ite_self, Int.add_sub_cancel, Int.sub_add_cancel, b_lc1, b_lc2, b_lc3, b_lc4, b_lc5, up_eq, up_ei, up_n1, up_n2, W32i, W8i, W16i, W64i, if_ps, if_ng, and_tr, fil_n1, fil_in, fil_out]; exact hin.hd) (by omega) d1 xf0 (by rw [hS0]; simp (disch := omega) only [true_and, and_true, and_self, if_true, if_false, ite_true, ite_false, reduceIte, Int.reduceEq, Int.reduceNe, Int.reduceLT, Int.reduceLE, Int.reduceAdd, Int.reduceSub, Int.reduceMul, Int.reduceNeg, Int.reduceMod, Int.reduceDiv, Int.reduceToNat, Nat.reduceAdd, Nat.reduceLeDiff, List.length_cons, List.length_nil, not_false_eq_true, not_true_eq_false, ne_eq, or_false, false_or, or_self, false_and, and_false, or_true, true_or, ite_self, Int.add_sub_cancel, Int.sub_add_cancel, b_lc1, b_lc2, b_lc3, b_lc4, b_lc5, up_eq, up_ei, up_n1, up_n2, W32i, W8i, W16i, W64i, if_ps, if_ng, and_tr, fil_n1, fil_in, fil_out]; exact hin.ft)
      obtain ⟨ob1, _, _⟩ := ot0.b
      have nd := x_node (bg := bg) in0.hp in0.h0 in0.hN in0.hs in0.h4 in0.hi in0.hby in0.hz (by omega) (by omega) b00 bz.1 (by omega) in0.hd (by omega) d1 xf0
      rw [ob1] at nd
      /- the call of the node -/
      have call1 : ∀ S1, zR 207 4 [(28, 28), (0, bg)] S0 S1 (0, 1) → ∀ Q, xlp S fm bg Q = xlp S1 fm bg Q := by
        intro S1 r Q
        unfold zR at r
        rw [hS0] at r
        have hd := hin.hd
        unfold xlp
        conv => lhs; rw [L206_34]
        simp (disch := omega) only [bcd, true_and, and_true, and_self, if_true, if_false, ite_true, ite_false, reduceIte, Int.reduceEq, Int.reduceNe, Int.reduceLT, Int.reduceLE, Int.reduceAdd, Int.reduceSub, Int.reduceMul, Int.reduceNeg, Int.reduceMod, Int.reduceDiv, Int.reduceToNat, Nat.reduceAdd, Nat.reduceLeDiff, List.length_cons, List.length_nil, not_false_eq_true, not_true_eq_false, ne_eq, or_false, false_or, or_self, false_and, and_false, or_true, true_or, ite_self, Int.add_sub_cancel, Int.sub_add_cancel, b_lc1, b_lc2, b_lc3, b_lc4, b_lc5, up_eq, up_ei, up_n1, up_n2, W32i, W8i, W16i, W64i, if_ps, if_ng, and_tr, fil_n1, fil_in, fil_out, le_tt, le_ff, lt_tt, lt_ff, eq_tt, eq_ff, M206, hd, show lv - 1 - 1 = lv - 2 by omega, h1, r]
      have call0 : ∀ S1, zR 207 4 [(28, 28), (0, bg)] S0 S1 (0, 0) → ∀ Q, xlp S fm bg Q = xend S1 fm bg Q := by
        intro S1 r Q
        unfold zR at r
        rw [hS0] at r
        have hd := hin.hd
        unfold xlp xend
        conv => lhs; rw [L206_34]
        have e34 : zG Cd 206 (Cd 206 34) [(28, 28), (0, fm), (0, bg), (0, 0)] [] S1 Q = zG Cd 206 (Cd 206 114) [(28, 28), (0, fm), (0, bg), (0, 0)] [] S1 Q := by
          rw [L206_34]
          simp (disch := omega) only [bcd, true_and, and_true, and_self, if_true, if_false, ite_true, ite_false, reduceIte, Int.reduceEq, Int.reduceNe, Int.reduceLT, Int.reduceLE, Int.reduceAdd, Int.reduceSub, Int.reduceMul, Int.reduceNeg, Int.reduceMod, Int.reduceDiv, Int.reduceToNat, Nat.reduceAdd, Nat.reduceLeDiff, List.length_cons, List.length_nil, not_false_eq_true, not_true_eq_false, ne_eq, or_false, false_or, or_self, false_and, and_false, or_true, true_or, ite_self, Int.add_sub_cancel, Int.sub_add_cancel, b_lc1, b_lc2, b_lc3, b_lc4, b_lc5, up_eq, up_ei, up_n1, up_n2, W32i, W8i, W16i, W64i, if_ps, if_ng, and_tr, fil_n1, fil_in, fil_out, le_tt, le_ff, lt_tt, lt_ff, eq_tt, eq_ff]
        rw [← e34]
        simp (disch := omega) only [bcd, true_and, and_true, and_self, if_true, if_false, ite_true, ite_false, reduceIte, Int.reduceEq, Int.reduceNe, Int.reduceLT, Int.reduceLE, Int.reduceAdd, Int.reduceSub, Int.reduceMul, Int.reduceNeg, Int.reduceMod, Int.reduceDiv, Int.reduceToNat, Nat.reduceAdd, Nat.reduceLeDiff, List.length_cons, List.length_nil, not_false_eq_true, not_true_eq_false, ne_eq, or_false, false_or, or_self, false_and, and_false, or_true, true_or, ite_self, Int.add_sub_cancel, Int.sub_add_cancel, b_lc1, b_lc2, b_lc3, b_lc4, b_lc5, up_eq, up_ei, up_n1, up_n2, W32i, W8i, W16i, W64i, if_ps, if_ng, and_tr, fil_n1, fil_in, fil_out, le_tt, le_ff, lt_tt, lt_ff, eq_tt, eq_ff, M206, hd, show lv - 1 - 1 = lv - 2 by omega, h1, r]
      have flt : ∀ e pl, (∃ S', xE S0 bg e pl S') → ∃ S', (∀ Q, xlp S fm bg Q = xend S' fm bg Q) ∧ xer S S' z e pl := by
        rintro e pl ⟨S', x⟩
        refine ⟨S', call0 S' x.run, ?_⟩
        have hz0 := in0.hz
        have sz := x.sz
        apply xer.mk1
        case ft => exact x.ft
        case plc => exact x.plc
        case e0 => exact x.e0
        case xf => exact x.xf
        case sz => omega
        case lo => rw [← hz0]; exact (by rw [hz0]; exact lo0 : xlow S S0 (S0 26 9)).tr x.lo (by omega)
        case ot => exact ot0.tr x.ot
      cases hh : rdH (xB S) N p (-1) with
      | error ep =>
        obtain ⟨e, pl⟩ := ep
        rw [hh] at nd
        exact flt e pl nd
      | ok kvp =>
        obtain ⟨kd, v, p1⟩ := kvp
        rw [hh] at nd
        simp only at nd ⊢
        by_cases zn : znum kd v
        · rw [if_neg (fun q => q zn)] at nd ⊢
          by_cases l : 12 < lv
          · rw [if_pos (by omega)] at nd
            rw [if_pos l]
            exact flt _ _ nd
          · rw [if_neg (by omega)] at nd
            rw [if_neg l]
            by_cases k2 : z - bg = 200
            · rw [if_pos k2] at nd ⊢
              exact flt _ _ nd
            · rw [if_neg k2] at nd ⊢
              cases hb : rdB (xB S) N kd v p1 with
              | error ep =>
                obtain ⟨e, pl⟩ := ep
                rw [hb] at nd
                exact flt e pl nd
              | ok tnp =>
                obtain ⟨tx, n, p2⟩ := tnp
                rw [hb] at nd
                simp only at nd ⊢
                obtain ⟨S1, val, nX, n1, st, xv⟩ := nd
                have T := x_step (S0 := S0) ih in0 (show lv = lv - 1 + 1 by omega) (by omega) (by omega) (by omega) (by rw [ob1]; exact hh) zn (by rw [ob1]; exact hb) rfl n1 st xv
                rw [ob1] at T
                cases hk : rdF (xB S) N f (lv + 1) n p2 (z - bg + 1) with
                | error ep =>
                  obtain ⟨e, pl⟩ := ep
                  rw [hk] at T
                  obtain ⟨S', r', x⟩ := T
                  refine ⟨S', fun Q => by rw [call1 S1 n1.run, r'], ?_⟩
                  apply xer.mk1
                  case ft => exact x.ft
                  case plc => exact x.plc
                  case e0 => exact x.e0
                  case xf => exact x.xf
                  case sz => exact x.sz
                  case lo => exact lo0.tr x.lo (by omega)
                  case ot => exact ot0.tr x.ot
                | ok kpk =>
                  obtain ⟨ks, p3, k3⟩ := kpk
                  rw [hk] at T
                  obtain ⟨S2, r2, ok⟩ := T
                  obtain ⟨b1, b2, b3, b4⟩ := rdB_ok hB hin.h0 hin.hN hh zn hb
                  obtain ⟨q1, q2, q3, q4, q5, q6, q7⟩ := rdF_ok hB _ _ _ _ _ _ _ _ (by have := hin.h0; omega) b2 b3 (by omega) (by omega) hk
                  have fs := fsize0 ks
                  have hp0 := hin.h0
                  have oz := ok.sz
                  simp only [fcons, fsize] at oz
                  have ot2 := ot0.tr ok.ot
                  obtain ⟨ob2, _, _⟩ := ot2.b
                  have in2 : xin S2 N p3 bg (z + (1 + fsize ks)) (lv - 1) := hin.go ot2 ok.at1 (by omega) q5 (by rw [ok.sz]; simp only [fcons, fsize]; omega) (by omega) ok.dp (by omega) d1 ok.xf (by rw [ok.ft]; exact in0.ft)
                  have l2 : S2 108 (lv - 2) = c - 1 := by rw [ok.lf (lv - 2) (by omega), hS0]; simp (disch := omega) only [true_and, and_true, and_self, if_true, if_false, ite_true, ite_false, reduceIte, Int.reduceEq, Int.reduceNe, Int.reduceLT, Int.reduceLE, Int.reduceAdd, Int.reduceSub, Int.reduceMul, Int.reduceNeg, Int.reduceMod, Int.reduceDiv, Int.reduceToNat, Nat.reduceAdd, Nat.reduceLeDiff, List.length_cons, List.length_nil, not_false_eq_true, not_true_eq_false, ne_eq, or_false, false_or, or_self, false_and, and_false, or_true, true_or, ite_self, Int.add_sub_cancel, Int.sub_add_cancel, b_lc1, b_lc2, b_lc3, b_lc4, b_lc5, up_eq, up_ei, up_n1, up_n2, W32i, W8i, W16i, W64i, if_ps, if_ng, and_tr, fil_n1, fil_in, fil_out]
                  have J := ih lv (c - 1) p3 (z + (1 + fsize ks)) S2 in2 hl l2 (by omega) (by omega) (by omega)
                  rw [ob2, show z + (1 + fsize ks) - bg = k3 by omega] at J
                  simp only
                  cases hr : rdF (xB S) N f lv (c - 1) p3 k3 with
                  | error ep =>
                    obtain ⟨e, pl⟩ := ep
                    rw [hr] at J
                    obtain ⟨S', r', x⟩ := J
                    refine ⟨S', fun Q => by rw [call1 S1 n1.run, r2, r'], ?_⟩
                    have xs := x.sz
                    apply xer.mk1
                    case ft => exact x.ft
                    case plc => exact x.plc
                    case e0 => exact x.e0
                    case xf => exact x.xf
                    case sz => omega
                    case lo => exact (lo0.tr ok.lo (by omega)).tr x.lo (by omega)
                    case ot => exact ot2.tr x.ot
                  | ok rpk =>
                    obtain ⟨r', p4, k4⟩ := rpk
                    rw [hr] at J
                    obtain ⟨S', r3, x, l3⟩ := J
                    refine ⟨S', fun Q => by rw [call1 S1 n1.run, r2, r3], ?_, l3⟩
                    apply xok.mk1
                    case ft => rw [x.ft, ok.ft, hS0]; simp (disch := omega) only [true_and, and_true, and_self, if_true, if_false, ite_true, ite_false, reduceIte, Int.reduceEq, Int.reduceNe, Int.reduceLT, Int.reduceLE, Int.reduceAdd, Int.reduceSub, Int.reduceMul, Int.reduceNeg, Int.reduceMod, Int.reduceDiv, Int.reduceToNat, Nat.reduceAdd, Nat.reduceLeDiff, List.length_cons, List.length_nil, not_false_eq_true, not_true_eq_false, ne_eq, or_false, false_or, or_self, false_and, and_false, or_true, true_or, ite_self, Int.add_sub_cancel, Int.sub_add_cancel, b_lc1, b_lc2, b_lc3, b_lc4, b_lc5, up_eq, up_ei, up_n1, up_n2, W32i, W8i, W16i, W64i, if_ps, if_ng, and_tr, fil_n1, fil_in, fil_out]
                    case plc => rw [x.plc, ok.plc, hS0]; simp (disch := omega) only [true_and, and_true, and_self, if_true, if_false, ite_true, ite_false, reduceIte, Int.reduceEq, Int.reduceNe, Int.reduceLT, Int.reduceLE, Int.reduceAdd, Int.reduceSub, Int.reduceMul, Int.reduceNeg, Int.reduceMod, Int.reduceDiv, Int.reduceToNat, Nat.reduceAdd, Nat.reduceLeDiff, List.length_cons, List.length_nil, not_false_eq_true, not_true_eq_false, ne_eq, or_false, false_or, or_self, false_and, and_false, or_true, true_or, ite_self, Int.add_sub_cancel, Int.sub_add_cancel, b_lc1, b_lc2, b_lc3, b_lc4, b_lc5, up_eq, up_ei, up_n1, up_n2, W32i, W8i, W16i, W64i, if_ps, if_ng, and_tr, fil_n1, fil_in, fil_out]
                    case at1 => exact x.at1
                    case xf => exact x.xf
                    case sz => rw [x.sz]; simp only [fcons, fsize]; omega
                    case lo => exact (lo0.tr ok.lo (by omega)).tr x.lo (by omega)
                    case ot => exact ot2.tr x.ot
                    case dp => exact x.dp
                    case op => intro i hi; rw [x.op i hi, ok.op i hi, hS0]; simp (disch := omega) only [true_and, and_true, and_self, if_true, if_false, ite_true, ite_false, reduceIte, Int.reduceEq, Int.reduceNe, Int.reduceLT, Int.reduceLE, Int.reduceAdd, Int.reduceSub, Int.reduceMul, Int.reduceNeg, Int.reduceMod, Int.reduceDiv, Int.reduceToNat, Nat.reduceAdd, Nat.reduceLeDiff, List.length_cons, List.length_nil, not_false_eq_true, not_true_eq_false, ne_eq, or_false, false_or, or_self, false_and, and_false, or_true, true_or, ite_self, Int.add_sub_cancel, Int.sub_add_cancel, b_lc1, b_lc2, b_lc3, b_lc4, b_lc5, up_eq, up_ei, up_n1, up_n2, W32i, W8i, W16i, W64i, if_ps, if_ng, and_tr, fil_n1, fil_in, fil_out]
                    case lf => intro i hi; rw [x.lf i hi, ok.lf i (by omega), hS0]; simp (disch := omega) only [true_and, and_true, and_self, if_true, if_false, ite_true, ite_false, reduceIte, Int.reduceEq, Int.reduceNe, Int.reduceLT, Int.reduceLE, Int.reduceAdd, Int.reduceSub, Int.reduceMul, Int.reduceNeg, Int.reduceMod, Int.reduceDiv, Int.reduceToNat, Nat.reduceAdd, Nat.reduceLeDiff, List.length_cons, List.length_nil, not_false_eq_true, not_true_eq_false, ne_eq, or_false, false_or, or_self, false_and, and_false, or_true, true_or, ite_self, Int.add_sub_cancel, Int.sub_add_cancel, b_lc1, b_lc2, b_lc3, b_lc4, b_lc5, up_eq, up_ei, up_n1, up_n2, W32i, W8i, W16i, W64i, if_ps, if_ng, and_tr, fil_n1, fil_in, fil_out]
                    case sg =>
                      have sg := ok.sg
                      obtain ⟨g1, g2, _⟩ := sg
                      have cg : xseg S' z (fcons (zfm kd) (zntg kd v) tx ks .leaf) := xseg_cg _ _ (x.lo.sm z _ (by omega) (by simp only [fcons, fsize]; omega)) ok.sg
                      obtain ⟨h1', h2', _⟩ := cg
                      refine ⟨h1', h2', ?_⟩
                      rw [show z + 1 + fsize ks = z + (1 + fsize ks) by omega]
                      exact x.sg
        · rw [if_pos zn] at nd ⊢
          exact flt _ _ nd
