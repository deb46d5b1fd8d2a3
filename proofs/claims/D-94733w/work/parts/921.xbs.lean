/-! PLAIN LAW: answers 37: two rows of rules for the same cells (the component's steps) -/
set_option linter.unusedVariables false
/-- a node: a rule's cells from a place inside it on -/
def vn (h : Nat → Int32) (i : Nat) : Prop := ri h (i / 3) ∧ 1 ≤ i % 3 ∧ i % 3 < cN h (i / 3)
def nd (h : Nat → Int32) (i : Nat) : Nat := cde h (i / 3) (i % 3)
theorem n33 {r k : Nat} (hk : k < 3) : (3 * r + k) / 3 = r ∧ (3 * r + k) % 3 = k := by omega
theorem vn.lt {h : Nat → Int32} {i : Nat} (hT : WT h) (hv : vn h i) : i < 72 := by
  have := hv.1.1
  have := hT.1.2
  omega
theorem nd_in {h : Nat → Int32} {i : Nat} (hT : WT h) (hv : vn h i) : nd h i ≠ 0 ∧ nd h i ≤ 4160 ∧ sz (nd h i) = cN h (i / 3) - i % 3 := by
  have e := cde_sz (i := i % 3) hT hv.1.1 hv.2.1
  have e2 := cde_le (i := i % 3) hT hv.1.1
  have h3 := hv.2.2
  refine ⟨fun z => ?_, e2, e⟩
  unfold nd at z
  rw [z] at e
  have : sz 0 = 0 := if_pos rfl
  omega
/-- what a node must have given on -/
def CLn (h : Nat → Int32) (g : Nat → Nat) (tw gx x q : Nat) : Prop := ∀ d w, ri h q → stR h (nd h x) q d w → (d = 0 → tw ≤ gx + w) ∧ (d ≠ 0 → ∃ i, vn h i ∧ nd h i = d ∧ g i ≤ gx + w)
def XSd (h : Nat → Int32) (g : Nat → Nat) (tw : Nat) : Prop := (∀ i, i < 72 → g i < 2147483647 → vn h i ∧ ∃ k, Rc h k (nd h i) (g i)) ∧ (tw < 2147483647 → ∃ k, Rc h k 0 tw)
theorem XSd.st {h : Nat → Int32} {g : Nat → Nat} {tw i t k : Nat} (hS : XSd h g tw) (hv : vn h i) (hR : Rc h k (nd h i) t) : XSd h (ovC g i t) tw := by
  refine ⟨fun j hj h1 => ?_, hS.2⟩
  by_cases e : j = i
  · subst e
    refine ⟨hv, ?_⟩
    by_cases z : t < g j
    · rw [ov_t z]; exact ⟨k, hR⟩
    · rw [ov_f z] at h1 ⊢; exact (hS.1 j hj h1).2
  · rw [ov_o e] at h1 ⊢; exact hS.1 j hj h1
section XBS
variable {a : Nat → Nat} {K : XK} {ow : Nat → Nat} {u v : XS} {m : MS} {g : Nat → Nat}
/-- the component's hangs, as they lie -/
def XGg (a : Nat → Nat) (v : XS) (g : Nat → Nat) : Prop := ∀ i, i < 72 → xi v (a 18) i = nI (g i) ∧ g i ≤ 2147483647
def XBg (a : Nat → Nat) (v : XS) (b : Nat → Nat) : Prop := ∀ i, i < 72 → xi v (a 19) i = nI (b i) ∧ b i ≤ 1
theorem XGg.ar (hR : Rep a K ow v m) : K (a 0) = (1, 0) ∧ xr v (a 0) 22 = some (a 18) ∧ K (a 18) = (2, 72) ∧ ow (a 18) = 18 ∧ xr v (a 0) 23 = some (a 19) ∧ K (a 19) = (6, 72) ∧ ow (a 19) = 19 ∧ ow (a 0) = 0 := by
  obtain ⟨⟨⟨k0, k1, k2, k3, k4, k5, k6, k7, k8, k9, k10, k11, k12, k13, k14, k15, k16, k17, k18, k19, k20⟩, hO, ⟨p0, p1, p2, p6, p10, p11, p14, p15, p16, p17, p18, p21, p22, p23, p24, p25⟩, ⟨t0, t1, t2, t3⟩⟩, ⟨⟨c3, tn, c3n, c3l⟩, c4, c5, c7, c8, c9, ctape, cfirst, cworn⟩, hTr, ⟨⟨⟨g0, g0l⟩, ⟨g1, g1l⟩, ⟨g2, g2l⟩, ⟨g3, g3l⟩, ⟨g4, g4a, g4b⟩, ⟨g5, g5a, g5b⟩, gru⟩, hWW, _, ⟨tb, ptb, ⟨ra, ktb, otb, pra, kra, ora, f1, f2, f3, f4, f5, f6, hru⟩⟩, cdr, hwr⟩, hMar, s, as, ps, hSet⟩ := hR
  have o0 : ow (a 0) = 0 := hO 0 (by omega)
  have o2 : ow (a 2) = 2 := hO 2 (by omega)
  exact ⟨k0, p22, k18, hO 18 (by omega), p23, k19, hO 19 (by omega), o0⟩
theorem Rep.sc {b k : Nat} {x : Int32} (hR : Rep a K ow v m) (hb : xsc (ow b)) : Rep a K ow (xsi v b k x) m := by
  have o0 : ow (a 0) = 0 := (XGg.ar hR).2.2.2.2.2.2.2
  refine hR.q QM.refl (QX.refl.s hb) ?_
  rw [xi_oa ow (fun z => by rw [o0] at z; rw [← z] at hb; unfold xsc at hb; omega)]
  exact hR.2.1.2.2.2.1
theorem x_hangs {r k t : Nat} {P : XS → Prop} (hR : Rep a K ow v m) (hG : XGg a v g) (hr : r < 24) (hk : k < 3) (ht : t ≤ 2147483647) (hP : P (xsi v (a 18) (3 * r + k) (nI (ovC g (3 * r + k) t (3 * r + k))))) : xw0_hangs (a 0) (nI r) (nI k) (nI t) K v P := by
  obtain ⟨k0, p22, k18, o18, p23, k19, o19, o0⟩ := XGg.ar hR
  obtain ⟨e1, e2⟩ := hG (3 * r + k) (by omega)
  have e3 : min (g (3 * r + k)) t = ovC g (3 * r + k) t (3 * r + k) := by
    by_cases z : t < g (3 * r + k)
    · rw [ov_t z]; omega
    · rw [ov_f z]; omega
  unfold xw0_hangs
  simp (disch := omega) only [k0, p22, k18, e1, e_min, e3, forall_eq, forall_eq', exists_eq_left, exists_eq_left', true_and, and_true, true_implies, false_implies, not_true_eq_false, not_false_eq_true, Prod.mk.injEq, Option.some.injEq, reduceCtorEq, and_self, implies_true, eq_self, Classical.not_not, and_false, false_and, ite_true, ite_false, reduceIte, bI_0, or_false, false_or, or_true, true_or, or_self, if_true, if_false, n_le_t, n_le_f, n_lt_t, n_lt_f, n_eq_t, n_eq_f, n_toInt, n_cl, n_vp, n_eqM, M_eqn, n_leM, n_ltM, M_len, M_ltn, M_add, n_sub, iM_toInt, x_lt_t, x_lt_f, x_le_t, x_le_f, lt_x_t, lt_x_f, le_x_t, le_x_f, x_eq_f, nI_add, pk_mul, bI_t, bI_f, Int32.toInt_toInt64, n_subI, x_add0, i_le_t, i_le_f, i_lt_t, i_lt_f, k_le_t, k_le_f, k_lt_t, k_lt_f, li_0, li_1, li_2, li_3, li_4, li_5, li_6, li_7, li_8, li_9, li_10, li_11, li_12, li_16, li_20, li_24, li_25, li_26, li_30, li_31, li_32, li_40, li_48, li_49, li_57, li_59, li_60, li_63, li_64, li_65, li_90, li_96, li_97, li_106, li_122, li_255, li_300, li_600, li_800, li_900, li_1850, li_2000, li_2010, li_2040, li_2801, li_3300, li_4161, li_9999, li_10163, li_16500, li_16800, li_17100, li_18350, li_18510, li_18540, li_65536, li_100000, li_999999, li_1000000, li_2147483647, im_1, im_8, ll_0, ll_1, ll_2, ll_3, ll_4, ll_6, ll_16, ll_20, ll_40, ll_63, ll_800, ll_9999, jm_same, jm_ob, jm_ok, jm_il, jm_li, jm_lsame, jm_lob, jm_lok, Nat.reduceAdd, Nat.reduceMul, Nat.zero_add, Nat.add_zero, Nat.mul_zero, Nat.zero_mul, e_mw_isSmall, e_mw_isDigit, e_mw_isDigit0, e_mw_isGreat, e_xs_isSmall, e_xs_isFigure, e_xs_isGreat, e_mw_isLetter, e_xs_isLetter, e_isBlank, e_xs_isBlank, e_isFrom, e_isIn]
  exact hP
theorem XGg.st {i t : Nat} (hG : XGg a v g) (ht : t ≤ 2147483647) : XGg a (xsi v (a 18) i (nI (ovC g i t i))) (ovC g i t) := fun j hj => by
  obtain ⟨e1, e2⟩ := hG j hj
  refine ⟨?_, Nat.le_trans (ov_le j) e2⟩
  by_cases e : j = i
  · subst e; exact xi_same
  · rw [xi_ok e, e1, ov_o e]
/-- the nearest that is not settled -/
def NR (g b : Nat → Nat) (k : Nat) : Option Nat → Prop
  | none => ∀ i, i < k → ¬ (b i = 0 ∧ g i < 2147483647)
  | some x => x < k ∧ b x = 0 ∧ g x < 2147483647 ∧ ∀ i, i < k → b i = 0 → g i < 2147483647 → g x ≤ g i
set_option maxHeartbeats 4000000 in
theorem x_nearest {b : Nat → Nat} {P : Int32 → XS → Prop} (hR : Rep a K ow v m) (hG : XGg a v g) (hB : XBg a v b) (hP : ∀ o, NR g b 72 o → P (oI o) v) : xw0_nearest (a 0) K v P := by
  obtain ⟨k0, p22, k18, o18, p23, k19, o19, o0⟩ := XGg.ar hR
  unfold xw0_nearest
  refine lp_st (fun n k (o : Option Nat) => xw0_nearest_L4 P K (a 0) n (oI o) (nI k) v) (fun k o => NR g b k o) 72 0 none (Nat.zero_le _) (fun i hi => by omega) (fun n o hI => ?_) (fun n k o hk hI ih => ?_)
  · have := hP o hI
    unfold xw0_nearest_L4 xw0_nearest_L4_S
    simp (disch := omega) only [k0, p22, k18, forall_eq, forall_eq', exists_eq_left, exists_eq_left', true_and, and_true, true_implies, false_implies, not_true_eq_false, not_false_eq_true, Prod.mk.injEq, Option.some.injEq, reduceCtorEq, and_self, implies_true, eq_self, Classical.not_not, and_false, false_and, ite_true, ite_false, reduceIte, bI_0, or_false, false_or, or_true, true_or, or_self, if_true, if_false, n_le_t, n_le_f, n_lt_t, n_lt_f, n_eq_t, n_eq_f, n_toInt, n_cl, n_vp, n_eqM, M_eqn, n_leM, n_ltM, M_len, M_ltn, M_add, n_sub, iM_toInt, x_lt_t, x_lt_f, x_le_t, x_le_f, lt_x_t, lt_x_f, le_x_t, le_x_f, x_eq_f, nI_add, pk_mul, bI_t, bI_f, Int32.toInt_toInt64, n_subI, x_add0, i_le_t, i_le_f, i_lt_t, i_lt_f, k_le_t, k_le_f, k_lt_t, k_lt_f, li_0, li_1, li_2, li_3, li_4, li_5, li_6, li_7, li_8, li_9, li_10, li_11, li_12, li_16, li_20, li_24, li_25, li_26, li_30, li_31, li_32, li_40, li_48, li_49, li_57, li_59, li_60, li_63, li_64, li_65, li_90, li_96, li_97, li_106, li_122, li_255, li_300, li_600, li_800, li_900, li_1850, li_2000, li_2010, li_2040, li_2801, li_3300, li_4161, li_9999, li_10163, li_16500, li_16800, li_17100, li_18350, li_18510, li_18540, li_65536, li_100000, li_999999, li_1000000, li_2147483647, im_1, im_8, ll_0, ll_1, ll_2, ll_3, ll_4, ll_6, ll_16, ll_20, ll_40, ll_63, ll_800, ll_9999, jm_same, jm_ob, jm_ok, jm_il, jm_li, jm_lsame, jm_lob, jm_lok, Nat.reduceAdd, Nat.reduceMul, Nat.zero_add, Nat.add_zero, Nat.mul_zero, Nat.zero_mul, e_mw_isSmall, e_mw_isDigit, e_mw_isDigit0, e_mw_isGreat, e_xs_isSmall, e_xs_isFigure, e_xs_isGreat, e_mw_isLetter, e_xs_isLetter, e_isBlank, e_xs_isBlank, e_isFrom, e_isIn]
    exact this
  · obtain ⟨e1, e2⟩ := hG k hk
    obtain ⟨f1, f2⟩ := hB k hk
    have hno : ¬ (b k = 0 ∧ g k < 2147483647) → NR g b (k + 1) o := fun hz => by
      cases o with
      | none =>
        intro i hi hq
        by_cases z : i = k
        · rw [z] at hq; exact hz hq
        · exact hI i (by omega) hq
      | some x =>
        obtain ⟨x1, x2, x3, x4⟩ := hI
        refine ⟨by omega, x2, x3, fun i hi h1 h2 => ?_⟩
        by_cases z : i = k
        · rw [z] at h1 h2; exact absurd ⟨h1, h2⟩ hz
        · exact x4 i (by omega) h1 h2
    unfold xw0_nearest_L4 xw0_nearest_L4_S
    by_cases c1 : b k = 0
    · rw [c1] at f1
      by_cases c2 : g k < 2147483647
      · cases o with
        | none =>
          have := ih (some k) ⟨by omega, c1, c2, fun i hi h1 h2 => by
            by_cases z : i = k
            · rw [z]; exact Nat.le_refl _
            · exact absurd ⟨h1, h2⟩ (hI i (by omega))⟩
          have zz : (iM < nI 0) = True := M_ltn (by omega)
          simp (disch := omega) only [k0, p22, k18, p23, k19, f1, e1, oI, zz, forall_eq, forall_eq', exists_eq_left, exists_eq_left', true_and, and_true, true_implies, false_implies, not_true_eq_false, not_false_eq_true, Prod.mk.injEq, Option.some.injEq, reduceCtorEq, and_self, implies_true, eq_self, Classical.not_not, and_false, false_and, ite_true, ite_false, reduceIte, bI_0, or_false, false_or, or_true, true_or, or_self, if_true, if_false, n_le_t, n_le_f, n_lt_t, n_lt_f, n_eq_t, n_eq_f, n_toInt, n_cl, n_vp, n_eqM, M_eqn, n_leM, n_ltM, M_len, M_ltn, M_add, n_sub, iM_toInt, x_lt_t, x_lt_f, x_le_t, x_le_f, lt_x_t, lt_x_f, le_x_t, le_x_f, x_eq_f, nI_add, pk_mul, bI_t, bI_f, Int32.toInt_toInt64, n_subI, x_add0, i_le_t, i_le_f, i_lt_t, i_lt_f, k_le_t, k_le_f, k_lt_t, k_lt_f, li_0, li_1, li_2, li_3, li_4, li_5, li_6, li_7, li_8, li_9, li_10, li_11, li_12, li_16, li_20, li_24, li_25, li_26, li_30, li_31, li_32, li_40, li_48, li_49, li_57, li_59, li_60, li_63, li_64, li_65, li_90, li_96, li_97, li_106, li_122, li_255, li_300, li_600, li_800, li_900, li_1850, li_2000, li_2010, li_2040, li_2801, li_3300, li_4161, li_9999, li_10163, li_16500, li_16800, li_17100, li_18350, li_18510, li_18540, li_65536, li_100000, li_999999, li_1000000, li_2147483647, im_1, im_8, ll_0, ll_1, ll_2, ll_3, ll_4, ll_6, ll_16, ll_20, ll_40, ll_63, ll_800, ll_9999, jm_same, jm_ob, jm_ok, jm_il, jm_li, jm_lsame, jm_lob, jm_lok, Nat.reduceAdd, Nat.reduceMul, Nat.zero_add, Nat.add_zero, Nat.mul_zero, Nat.zero_mul, e_mw_isSmall, e_mw_isDigit, e_mw_isDigit0, e_mw_isGreat, e_xs_isSmall, e_xs_isFigure, e_xs_isGreat, e_mw_isLetter, e_xs_isLetter, e_isBlank, e_xs_isBlank, e_isFrom, e_isIn]
          exact this
        | some x =>
          obtain ⟨x1, x2, x3, x4⟩ := id hI
          obtain ⟨e3, e4⟩ := hG x (by omega)
          by_cases c3 : g x ≤ g k
          · have := ih (some x) ⟨by omega, x2, x3, fun i hi h1 h2 => by
              by_cases z : i = k
              · rw [z]; exact c3
              · exact x4 i (by omega) h1 h2⟩
            simp (disch := omega) only [k0, p22, k18, p23, k19, f1, e1, e3, oI, forall_eq, forall_eq', exists_eq_left, exists_eq_left', true_and, and_true, true_implies, false_implies, not_true_eq_false, not_false_eq_true, Prod.mk.injEq, Option.some.injEq, reduceCtorEq, and_self, implies_true, eq_self, Classical.not_not, and_false, false_and, ite_true, ite_false, reduceIte, bI_0, or_false, false_or, or_true, true_or, or_self, if_true, if_false, n_le_t, n_le_f, n_lt_t, n_lt_f, n_eq_t, n_eq_f, n_toInt, n_cl, n_vp, n_eqM, M_eqn, n_leM, n_ltM, M_len, M_ltn, M_add, n_sub, iM_toInt, x_lt_t, x_lt_f, x_le_t, x_le_f, lt_x_t, lt_x_f, le_x_t, le_x_f, x_eq_f, nI_add, pk_mul, bI_t, bI_f, Int32.toInt_toInt64, n_subI, x_add0, i_le_t, i_le_f, i_lt_t, i_lt_f, k_le_t, k_le_f, k_lt_t, k_lt_f, li_0, li_1, li_2, li_3, li_4, li_5, li_6, li_7, li_8, li_9, li_10, li_11, li_12, li_16, li_20, li_24, li_25, li_26, li_30, li_31, li_32, li_40, li_48, li_49, li_57, li_59, li_60, li_63, li_64, li_65, li_90, li_96, li_97, li_106, li_122, li_255, li_300, li_600, li_800, li_900, li_1850, li_2000, li_2010, li_2040, li_2801, li_3300, li_4161, li_9999, li_10163, li_16500, li_16800, li_17100, li_18350, li_18510, li_18540, li_65536, li_100000, li_999999, li_1000000, li_2147483647, im_1, im_8, ll_0, ll_1, ll_2, ll_3, ll_4, ll_6, ll_16, ll_20, ll_40, ll_63, ll_800, ll_9999, jm_same, jm_ob, jm_ok, jm_il, jm_li, jm_lsame, jm_lob, jm_lok, Nat.reduceAdd, Nat.reduceMul, Nat.zero_add, Nat.add_zero, Nat.mul_zero, Nat.zero_mul, e_mw_isSmall, e_mw_isDigit, e_mw_isDigit0, e_mw_isGreat, e_xs_isSmall, e_xs_isFigure, e_xs_isGreat, e_mw_isLetter, e_xs_isLetter, e_isBlank, e_xs_isBlank, e_isFrom, e_isIn]
            exact this
          · have := ih (some k) ⟨by omega, c1, c2, fun i hi h1 h2 => by
              by_cases z : i = k
              · rw [z]; exact Nat.le_refl _
              · have := x4 i (by omega) h1 h2; omega⟩
            simp (disch := omega) only [k0, p22, k18, p23, k19, f1, e1, e3, oI, forall_eq, forall_eq', exists_eq_left, exists_eq_left', true_and, and_true, true_implies, false_implies, not_true_eq_false, not_false_eq_true, Prod.mk.injEq, Option.some.injEq, reduceCtorEq, and_self, implies_true, eq_self, Classical.not_not, and_false, false_and, ite_true, ite_false, reduceIte, bI_0, or_false, false_or, or_true, true_or, or_self, if_true, if_false, n_le_t, n_le_f, n_lt_t, n_lt_f, n_eq_t, n_eq_f, n_toInt, n_cl, n_vp, n_eqM, M_eqn, n_leM, n_ltM, M_len, M_ltn, M_add, n_sub, iM_toInt, x_lt_t, x_lt_f, x_le_t, x_le_f, lt_x_t, lt_x_f, le_x_t, le_x_f, x_eq_f, nI_add, pk_mul, bI_t, bI_f, Int32.toInt_toInt64, n_subI, x_add0, i_le_t, i_le_f, i_lt_t, i_lt_f, k_le_t, k_le_f, k_lt_t, k_lt_f, li_0, li_1, li_2, li_3, li_4, li_5, li_6, li_7, li_8, li_9, li_10, li_11, li_12, li_16, li_20, li_24, li_25, li_26, li_30, li_31, li_32, li_40, li_48, li_49, li_57, li_59, li_60, li_63, li_64, li_65, li_90, li_96, li_97, li_106, li_122, li_255, li_300, li_600, li_800, li_900, li_1850, li_2000, li_2010, li_2040, li_2801, li_3300, li_4161, li_9999, li_10163, li_16500, li_16800, li_17100, li_18350, li_18510, li_18540, li_65536, li_100000, li_999999, li_1000000, li_2147483647, im_1, im_8, ll_0, ll_1, ll_2, ll_3, ll_4, ll_6, ll_16, ll_20, ll_40, ll_63, ll_800, ll_9999, jm_same, jm_ob, jm_ok, jm_il, jm_li, jm_lsame, jm_lob, jm_lok, Nat.reduceAdd, Nat.reduceMul, Nat.zero_add, Nat.add_zero, Nat.mul_zero, Nat.zero_mul, e_mw_isSmall, e_mw_isDigit, e_mw_isDigit0, e_mw_isGreat, e_xs_isSmall, e_xs_isFigure, e_xs_isGreat, e_mw_isLetter, e_xs_isLetter, e_isBlank, e_xs_isBlank, e_isFrom, e_isIn]
            exact this
      · have := ih o (hno (fun z => c2 z.2))
        simp (disch := omega) only [k0, p22, k18, p23, k19, f1, e1, forall_eq, forall_eq', exists_eq_left, exists_eq_left', true_and, and_true, true_implies, false_implies, not_true_eq_false, not_false_eq_true, Prod.mk.injEq, Option.some.injEq, reduceCtorEq, and_self, implies_true, eq_self, Classical.not_not, and_false, false_and, ite_true, ite_false, reduceIte, bI_0, or_false, false_or, or_true, true_or, or_self, if_true, if_false, n_le_t, n_le_f, n_lt_t, n_lt_f, n_eq_t, n_eq_f, n_toInt, n_cl, n_vp, n_eqM, M_eqn, n_leM, n_ltM, M_len, M_ltn, M_add, n_sub, iM_toInt, x_lt_t, x_lt_f, x_le_t, x_le_f, lt_x_t, lt_x_f, le_x_t, le_x_f, x_eq_f, nI_add, pk_mul, bI_t, bI_f, Int32.toInt_toInt64, n_subI, x_add0, i_le_t, i_le_f, i_lt_t, i_lt_f, k_le_t, k_le_f, k_lt_t, k_lt_f, li_0, li_1, li_2, li_3, li_4, li_5, li_6, li_7, li_8, li_9, li_10, li_11, li_12, li_16, li_20, li_24, li_25, li_26, li_30, li_31, li_32, li_40, li_48, li_49, li_57, li_59, li_60, li_63, li_64, li_65, li_90, li_96, li_97, li_106, li_122, li_255, li_300, li_600, li_800, li_900, li_1850, li_2000, li_2010, li_2040, li_2801, li_3300, li_4161, li_9999, li_10163, li_16500, li_16800, li_17100, li_18350, li_18510, li_18540, li_65536, li_100000, li_999999, li_1000000, li_2147483647, im_1, im_8, ll_0, ll_1, ll_2, ll_3, ll_4, ll_6, ll_16, ll_20, ll_40, ll_63, ll_800, ll_9999, jm_same, jm_ob, jm_ok, jm_il, jm_li, jm_lsame, jm_lob, jm_lok, Nat.reduceAdd, Nat.reduceMul, Nat.zero_add, Nat.add_zero, Nat.mul_zero, Nat.zero_mul, e_mw_isSmall, e_mw_isDigit, e_mw_isDigit0, e_mw_isGreat, e_xs_isSmall, e_xs_isFigure, e_xs_isGreat, e_mw_isLetter, e_xs_isLetter, e_isBlank, e_xs_isBlank, e_isFrom, e_isIn]
        exact this
    · have := ih o (hno (fun z => c1 z.1))
      have fz : (nI (b k) = nI 0) = False := nI_ne (by omega) (by omega) c1
      simp (disch := omega) only [k0, p22, k18, p23, k19, f1, fz, forall_eq, forall_eq', exists_eq_left, exists_eq_left', true_and, and_true, true_implies, false_implies, not_true_eq_false, not_false_eq_true, Prod.mk.injEq, Option.some.injEq, reduceCtorEq, and_self, implies_true, eq_self, Classical.not_not, and_false, false_and, ite_true, ite_false, reduceIte, bI_0, or_false, false_or, or_true, true_or, or_self, if_true, if_false, n_le_t, n_le_f, n_lt_t, n_lt_f, n_eq_t, n_eq_f, n_toInt, n_cl, n_vp, n_eqM, M_eqn, n_leM, n_ltM, M_len, M_ltn, M_add, n_sub, iM_toInt, x_lt_t, x_lt_f, x_le_t, x_le_f, lt_x_t, lt_x_f, le_x_t, le_x_f, x_eq_f, nI_add, pk_mul, bI_t, bI_f, Int32.toInt_toInt64, n_subI, x_add0, i_le_t, i_le_f, i_lt_t, i_lt_f, k_le_t, k_le_f, k_lt_t, k_lt_f, li_0, li_1, li_2, li_3, li_4, li_5, li_6, li_7, li_8, li_9, li_10, li_11, li_12, li_16, li_20, li_24, li_25, li_26, li_30, li_31, li_32, li_40, li_48, li_49, li_57, li_59, li_60, li_63, li_64, li_65, li_90, li_96, li_97, li_106, li_122, li_255, li_300, li_600, li_800, li_900, li_1850, li_2000, li_2010, li_2040, li_2801, li_3300, li_4161, li_9999, li_10163, li_16500, li_16800, li_17100, li_18350, li_18510, li_18540, li_65536, li_100000, li_999999, li_1000000, li_2147483647, im_1, im_8, ll_0, ll_1, ll_2, ll_3, ll_4, ll_6, ll_16, ll_20, ll_40, ll_63, ll_800, ll_9999, jm_same, jm_ob, jm_ok, jm_il, jm_li, jm_lsame, jm_lob, jm_lok, Nat.reduceAdd, Nat.reduceMul, Nat.zero_add, Nat.add_zero, Nat.mul_zero, Nat.zero_mul, e_mw_isSmall, e_mw_isDigit, e_mw_isDigit0, e_mw_isGreat, e_xs_isSmall, e_xs_isFigure, e_xs_isGreat, e_mw_isLetter, e_xs_isLetter, e_isBlank, e_xs_isBlank, e_isFrom, e_isIn]
      exact this
end XBS
