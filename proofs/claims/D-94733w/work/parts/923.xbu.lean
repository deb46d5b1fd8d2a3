/-! PLAIN LAW: answers 39: two rows of rules for the same cells (the component's main loop) -/
set_option linter.unusedVariables false
def PX1 (h : Nat → Int32) (g : Nat → Nat) (tw p q : Nat) : Prop := (cN h p = cN h q → tw ≤ cN h q) ∧ (cN h p ≠ cN h q → g (3 * q + cN h p) ≤ cN h q)
def PXd (h : Nat → Int32) (g : Nat → Nat) (tw x y : Nat) : Prop := ∀ p q, (p < x ∨ (p = x ∧ q < y)) → PR h p q → PX1 h g tw p q
theorem PX1.le {h : Nat → Int32} {g g2 : Nat → Nat} {t t2 p q : Nat} (hp : PX1 h g t p q) (hg : ∀ i, g2 i ≤ g i) (ht : t2 ≤ t) : PX1 h g2 t2 p q := ⟨fun e => Nat.le_trans ht (hp.1 e), fun e => Nat.le_trans (hg _) (hp.2 e)⟩
theorem LW.x {h : Nat → Int32} {g : Nat → Nat} {tw : Nat} (hT : WT h) (hS : XSd h g tw) (hp : ∀ p q, PR h p q → PX1 h g tw p q) (hb : ∀ i, i < 72 → g i < 2147483647 → g i ≤ 300) (hc : ∀ x, vn h x → g x < 2147483647 → ∀ q, CLn h g tw (g x) x q) : LW h (if tw < 2147483647 then some tw else none) := by
  have key : ∀ k c t, Rc h k c t → (c = 0 → tw ≤ t ∧ tw < 2147483647) ∧ (c ≠ 0 → ∃ i, vn h i ∧ nd h i = c ∧ g i ≤ t ∧ g i < 2147483647) := by
    intro k
    induction k with
    | zero =>
      rintro c t ⟨x, y, hxy, hx, hy, hcl, rfl, rfl⟩
      obtain ⟨k1, k2⟩ := hp x y ⟨hxy, hx, hy, hcl⟩
      have b1 := cN_in hT hx.1
      have b2 := cN_in hT hy.1
      have hle : cN h x ≤ cN h y := hcl.1
      by_cases e : cN h x = cN h y
      · have := k1 e
        exact ⟨fun _ => ⟨this, by omega⟩, fun z => absurd (cde_0 (by omega)) z⟩
      · have := k2 e
        have hv : vn h (3 * y + cN h x) := vn_n (by omega) hy b1.1 (by omega)
        have e2 : nd h (3 * y + cN h x) = cde h y (cN h x) := nd_n (by omega)
        refine ⟨fun z => ?_, fun _ => ⟨_, hv, e2, this, by omega⟩⟩
        exact absurd (e2.trans z) (nd_in hT hv).1
    | succ k ih =>
      rintro c t ⟨d, s, r, w, hd, h0, hr, hs, rfl⟩
      obtain ⟨i, i1, i2, i3, i4⟩ := (ih d s hd).2 h0
      have hw := (stR_le hT (by rw [← i2]; exact (nd_in hT i1).2.1) hr.1 hs).2
      have hb2 := hb i (i1.lt hT) i4
      obtain ⟨j1, j2⟩ := hc i i1 i4 r c w hr (by rw [i2]; exact hs)
      refine ⟨fun z => ?_, fun z => ?_⟩
      · have := j1 z
        omega
      · obtain ⟨j, a1, a2, a3⟩ := j2 z
        exact ⟨j, a1, a2, by omega, by omega⟩
  by_cases z : tw < 2147483647
  · rw [if_pos z]
    exact ⟨hS.2 z, fun k t hk => ((key k 0 t hk).1 rfl).1⟩
  · rw [if_neg z]
    exact fun k t hk => z ((key k 0 t hk).1 rfl).2
section XBU
variable {a : Nat → Nat} {K : XK} {ow : Nat → Nat} {u v : XS} {m : MS}
def MJ (a : Nat → Nat) (ow : Nat → Nat) (u : XS) (h : Nat → Int32) (S : Nat) (v : XS) (g b : Nat → Nat) (tw : Nat) : Prop :=
  (SV a ow u v ∧ XGg a v g ∧ XBg a v b) ∧ S = cnt (fun i => b i = 1) 72 ∧ XSd h g tw ∧ (∀ i, i < 72 → g i < 2147483647 → g i ≤ 3 + 3 * S) ∧ (∀ i j, i < 72 → j < 72 → b i = 1 → b j = 0 → g j < 2147483647 → g i ≤ g j) ∧ (∀ i, i < 72 → b i = 1 → g i < 2147483647) ∧
  (∀ x, x < 72 → b x = 1 → ∀ q, CLn h g tw (g x) x q) ∧ (∀ p q, PR h p q → PX1 h g tw p q) ∧ tw ≤ 2147483647
set_option maxHeartbeats 8000000 in
theorem x_main {P : Int32 → XS → Prop} (hR : Rep a K ow u m) (hP : ∀ v tw, SV a ow u v → tw ≤ 2147483647 → LW (sl m 0) (if tw < 2147483647 then some tw else none) → P (if tw < 2147483647 then nI tw else iM) v) :
    ∀ d S v g b tw o, S + d = 72 → MJ a ow u (sl m 0) S v g b tw → NR g b 72 o → xw0_hanging_L183 P K (a 0) (d + 1) (nI tw) (oI o) v := by
  have hT : WT (sl m 0) := hR.2.2.2.1.1
  obtain ⟨k0, _, k18, o18, _, k19, o19, o0⟩ := XGg.ar hR
  have hend : ∀ n S v g b tw, S ≤ 72 → MJ a ow u (sl m 0) S v g b tw → NR g b 72 none → xw0_hanging_L183 P K (a 0) (n + 1) (nI tw) (oI none) v := by
    intro n S v g b tw hS72 hJ hN
    obtain ⟨⟨hV, hG, hB⟩, hS, hX, hbd, hord, hfin, hcl, hpr, htw⟩ := hJ
    have hLW : LW (sl m 0) (if tw < 2147483647 then some tw else none) := LW.x hT hX hpr (fun i hi hl => by have := hbd i hi hl; omega) (fun x hx hl => by
      have h72 := hx.lt hT
      have := (hB x h72).2
      exact hcl x h72 (by
        by_cases z : b x = 0
        · exact absurd ⟨z, hl⟩ (hN x h72)
        · omega))
    have := hP v tw hV htw hLW
    have zz : (iM < nI 0) = True := M_ltn (by omega)
    unfold xw0_hanging_L183 xw0_hanging_L183_S
    by_cases z : tw < 2147483647
    · rw [if_pos z] at this
      have z2 : (nI tw = nI 2147483647) = False := nI_ne (by omega) (by omega) (by omega)
      simp (disch := omega) only [oI, zz, z2, forall_eq, forall_eq', exists_eq_left, exists_eq_left', true_and, and_true, true_implies, false_implies, not_true_eq_false, not_false_eq_true, Prod.mk.injEq, Option.some.injEq, reduceCtorEq, and_self, implies_true, eq_self, Classical.not_not, and_false, false_and, ite_true, ite_false, reduceIte, bI_0, or_false, false_or, or_true, true_or, or_self, if_true, if_false, n_le_t, n_le_f, n_lt_t, n_lt_f, n_eq_t, n_eq_f, n_toInt, n_cl, n_vp, n_eqM, M_eqn, n_leM, n_ltM, M_len, M_ltn, M_add, n_sub, iM_toInt, x_lt_t, x_lt_f, x_le_t, x_le_f, lt_x_t, lt_x_f, le_x_t, le_x_f, x_eq_f, nI_add, pk_mul, bI_t, bI_f, Int32.toInt_toInt64, n_subI, x_add0, i_le_t, i_le_f, i_lt_t, i_lt_f, k_le_t, k_le_f, k_lt_t, k_lt_f, li_0, li_1, li_2, li_3, li_4, li_5, li_6, li_7, li_8, li_9, li_10, li_11, li_12, li_16, li_20, li_24, li_25, li_26, li_30, li_31, li_32, li_40, li_48, li_49, li_57, li_59, li_60, li_63, li_64, li_65, li_90, li_96, li_97, li_106, li_122, li_255, li_300, li_600, li_800, li_900, li_1850, li_2000, li_2010, li_2040, li_2801, li_3300, li_4161, li_9999, li_10163, li_16500, li_16800, li_17100, li_18350, li_18510, li_18540, li_65536, li_100000, li_999999, li_1000000, li_2147483647, im_1, im_8, ll_0, ll_1, ll_2, ll_3, ll_4, ll_6, ll_16, ll_20, ll_40, ll_63, ll_800, ll_9999, jm_same, jm_ob, jm_ok, jm_il, jm_li, jm_lsame, jm_lob, jm_lok, Nat.reduceAdd, Nat.reduceMul, Nat.zero_add, Nat.add_zero, Nat.mul_zero, Nat.zero_mul, e_mw_isSmall, e_mw_isDigit, e_mw_isDigit0, e_mw_isGreat, e_xs_isSmall, e_xs_isFigure, e_xs_isGreat, e_mw_isLetter, e_xs_isLetter, e_isBlank, e_xs_isBlank, e_isFrom, e_isIn]
      exact this
    · rw [if_neg z] at this
      have z2 : tw = 2147483647 := by omega
      subst z2
      simp (disch := omega) only [oI, zz, forall_eq, forall_eq', exists_eq_left, exists_eq_left', true_and, and_true, true_implies, false_implies, not_true_eq_false, not_false_eq_true, Prod.mk.injEq, Option.some.injEq, reduceCtorEq, and_self, implies_true, eq_self, Classical.not_not, and_false, false_and, ite_true, ite_false, reduceIte, bI_0, or_false, false_or, or_true, true_or, or_self, if_true, if_false, n_le_t, n_le_f, n_lt_t, n_lt_f, n_eq_t, n_eq_f, n_toInt, n_cl, n_vp, n_eqM, M_eqn, n_leM, n_ltM, M_len, M_ltn, M_add, n_sub, iM_toInt, x_lt_t, x_lt_f, x_le_t, x_le_f, lt_x_t, lt_x_f, le_x_t, le_x_f, x_eq_f, nI_add, pk_mul, bI_t, bI_f, Int32.toInt_toInt64, n_subI, x_add0, i_le_t, i_le_f, i_lt_t, i_lt_f, k_le_t, k_le_f, k_lt_t, k_lt_f, li_0, li_1, li_2, li_3, li_4, li_5, li_6, li_7, li_8, li_9, li_10, li_11, li_12, li_16, li_20, li_24, li_25, li_26, li_30, li_31, li_32, li_40, li_48, li_49, li_57, li_59, li_60, li_63, li_64, li_65, li_90, li_96, li_97, li_106, li_122, li_255, li_300, li_600, li_800, li_900, li_1850, li_2000, li_2010, li_2040, li_2801, li_3300, li_4161, li_9999, li_10163, li_16500, li_16800, li_17100, li_18350, li_18510, li_18540, li_65536, li_100000, li_999999, li_1000000, li_2147483647, im_1, im_8, ll_0, ll_1, ll_2, ll_3, ll_4, ll_6, ll_16, ll_20, ll_40, ll_63, ll_800, ll_9999, jm_same, jm_ob, jm_ok, jm_il, jm_li, jm_lsame, jm_lob, jm_lok, Nat.reduceAdd, Nat.reduceMul, Nat.zero_add, Nat.add_zero, Nat.mul_zero, Nat.zero_mul, e_mw_isSmall, e_mw_isDigit, e_mw_isDigit0, e_mw_isGreat, e_xs_isSmall, e_xs_isFigure, e_xs_isGreat, e_mw_isLetter, e_xs_isLetter, e_isBlank, e_xs_isBlank, e_isFrom, e_isIn]
      exact this
  intro d
  induction d with
  | zero =>
    intro S v g b tw o hd hJ hN
    cases o with
    | some x =>
      exfalso
      obtain ⟨_, hS, _⟩ := hJ
      obtain ⟨x1, x2, _⟩ := hN
      have := cnt_one (p := fun i => b i = 1) (q := fun i => b i = 1 ∨ i = x) (j := x) (by show ¬ b x = 1; omega) (Or.inr rfl) 72 x1 (fun k hk hk2 => ⟨Or.inl, fun z => z.resolve_right hk2⟩)
      have := cnt_le (p := fun i => b i = 1 ∨ i = x) 72
      omega
    | none => exact hend _ S v g b tw (by omega) hJ hN
  | succ d ih =>
    intro S v g b tw o hd hJ hN
    cases o with
    | none => exact hend _ S v g b tw (by omega) hJ hN
    | some x =>
      obtain ⟨⟨hV, hG, hB⟩, hS, hX, hbd, hord, hfin, hcl, hpr, htw⟩ := hJ
      obtain ⟨x1, x2, x3, x4⟩ := hN
      obtain ⟨hvx, k, hRc⟩ := hX.1 x x1 x3
      have hbx := hbd x x1 x3
      have e1 : nI x / nI 3 = nI (x / 3) := n_div (by omega) (by omega)
      have e2 : nI x - nI (x / 3) * nI 3 = nI (x % 3) := by rw [pk_mul, n_sub (by omega)]; congr 1; omega
      have hzz : (nI x < nI 0) = False := n_lt_f (by omega) (by omega)
      obtain ⟨_, _, _, _, p23, _⟩ := XGg.ar (hV.r hR)
      have ebb : vp_nar .boolean (nI 1) = nI 1 := rfl
      have hV1 : SV a ow u (xsi v (a 19) x (nI 1)) := hV.s (by rw [o19]; unfold xsc; omega) o0
      have hG1 : XGg a (xsi v (a 19) x (nI 1)) g := fun i hi => by rw [xi_oa ow (by omega)]; exact hG i hi
      have hB1 : XBg a (xsi v (a 19) x (nI 1)) (fun i => if i = x then 1 else b i) := fun i hi => by
        show xi _ _ _ = nI (if i = x then 1 else b i) ∧ (if i = x then 1 else b i) ≤ 1
        by_cases e : i = x
        · subst e
          rw [if_pos rfl]
          exact ⟨xi_same, Nat.le_refl _⟩
        · rw [if_neg e, xi_ok e]; exact hB i hi
      have hset : ∀ i, i < 72 → (if i = x then 1 else b i) = 1 → g i ≤ g x := fun i hi hb => by
        by_cases e : i = x
        · rw [e]; exact Nat.le_refl _
        · rw [if_neg e] at hb
          exact hord i x hi x1 hb x2 x3
      have hcnt : S + 1 = cnt (fun i => (if i = x then 1 else b i) = 1) 72 := by
        rw [hS]
        refine (cnt_one (p := fun i => b i = 1) (q := fun i => (if i = x then 1 else b i) = 1) (j := x) (by show ¬ b x = 1; omega) (if_pos rfl) 72 x1 (fun k hk hk2 => ?_)).symm
        show b k = 1 ↔ (if k = x then 1 else b k) = 1
        rw [if_neg hk2]
      unfold xw0_hanging_L183 xw0_hanging_L183_S
      simp (disch := omega) only [oI, hzz, k0, p23, k19, ebb, e1, forall_eq, forall_eq', exists_eq_left, exists_eq_left', true_and, and_true, true_implies, false_implies, not_true_eq_false, not_false_eq_true, Prod.mk.injEq, Option.some.injEq, reduceCtorEq, and_self, implies_true, eq_self, Classical.not_not, and_false, false_and, ite_true, ite_false, reduceIte, bI_0, or_false, false_or, or_true, true_or, or_self, if_true, if_false, n_le_t, n_le_f, n_lt_t, n_lt_f, n_eq_t, n_eq_f, n_toInt, n_cl, n_vp, n_eqM, M_eqn, n_leM, n_ltM, M_len, M_ltn, M_add, n_sub, iM_toInt, x_lt_t, x_lt_f, x_le_t, x_le_f, lt_x_t, lt_x_f, le_x_t, le_x_f, x_eq_f, nI_add, pk_mul, bI_t, bI_f, Int32.toInt_toInt64, n_subI, x_add0, i_le_t, i_le_f, i_lt_t, i_lt_f, k_le_t, k_le_f, k_lt_t, k_lt_f, li_0, li_1, li_2, li_3, li_4, li_5, li_6, li_7, li_8, li_9, li_10, li_11, li_12, li_16, li_20, li_24, li_25, li_26, li_30, li_31, li_32, li_40, li_48, li_49, li_57, li_59, li_60, li_63, li_64, li_65, li_90, li_96, li_97, li_106, li_122, li_255, li_300, li_600, li_800, li_900, li_1850, li_2000, li_2010, li_2040, li_2801, li_3300, li_4161, li_9999, li_10163, li_16500, li_16800, li_17100, li_18350, li_18510, li_18540, li_65536, li_100000, li_999999, li_1000000, li_2147483647, im_1, im_8, ll_0, ll_1, ll_2, ll_3, ll_4, ll_6, ll_16, ll_20, ll_40, ll_63, ll_800, ll_9999, jm_same, jm_ob, jm_ok, jm_il, jm_li, jm_lsame, jm_lob, jm_lok, Nat.reduceAdd, Nat.reduceMul, Nat.zero_add, Nat.add_zero, Nat.mul_zero, Nat.zero_mul, e_mw_isSmall, e_mw_isDigit, e_mw_isDigit0, e_mw_isGreat, e_xs_isSmall, e_xs_isFigure, e_xs_isGreat, e_mw_isLetter, e_xs_isLetter, e_isBlank, e_xs_isBlank, e_isFrom, e_isIn]
      have e4 : x - x / 3 * 3 = x % 3 := by omega
      rw [pk_mul] at e2
      try simp (disch := omega) only [e2, forall_eq, forall_eq', exists_eq_left, exists_eq_left', true_and, and_true, true_implies, false_implies, not_true_eq_false, not_false_eq_true, Prod.mk.injEq, Option.some.injEq, reduceCtorEq, and_self, implies_true, eq_self, Classical.not_not, and_false, false_and, ite_true, ite_false, reduceIte, bI_0, or_false, false_or, or_true, true_or, or_self, if_true, if_false, n_le_t, n_le_f, n_lt_t, n_lt_f, n_eq_t, n_eq_f, n_toInt, n_cl, n_vp, n_eqM, M_eqn, n_leM, n_ltM, M_len, M_ltn, M_add, n_sub, iM_toInt, x_lt_t, x_lt_f, x_le_t, x_le_f, lt_x_t, lt_x_f, le_x_t, le_x_f, x_eq_f, nI_add, pk_mul, bI_t, bI_f, Int32.toInt_toInt64, n_subI, x_add0, i_le_t, i_le_f, i_lt_t, i_lt_f, k_le_t, k_le_f, k_lt_t, k_lt_f, li_0, li_1, li_2, li_3, li_4, li_5, li_6, li_7, li_8, li_9, li_10, li_11, li_12, li_16, li_20, li_24, li_25, li_26, li_30, li_31, li_32, li_40, li_48, li_49, li_57, li_59, li_60, li_63, li_64, li_65, li_90, li_96, li_97, li_106, li_122, li_255, li_300, li_600, li_800, li_900, li_1850, li_2000, li_2010, li_2040, li_2801, li_3300, li_4161, li_9999, li_10163, li_16500, li_16800, li_17100, li_18350, li_18510, li_18540, li_65536, li_100000, li_999999, li_1000000, li_2147483647, im_1, im_8, ll_0, ll_1, ll_2, ll_3, ll_4, ll_6, ll_16, ll_20, ll_40, ll_63, ll_800, ll_9999, jm_same, jm_ob, jm_ok, jm_il, jm_li, jm_lsame, jm_lob, jm_lok, Nat.reduceAdd, Nat.reduceMul, Nat.zero_add, Nat.add_zero, Nat.mul_zero, Nat.zero_mul, e_mw_isSmall, e_mw_isDigit, e_mw_isDigit0, e_mw_isGreat, e_xs_isSmall, e_xs_isFigure, e_xs_isGreat, e_mw_isLetter, e_xs_isLetter, e_isBlank, e_xs_isBlank, e_isFrom, e_isIn]
      try simp (disch := omega) only [e4, forall_eq, forall_eq', exists_eq_left, exists_eq_left', true_and, and_true, true_implies, false_implies, not_true_eq_false, not_false_eq_true, Prod.mk.injEq, Option.some.injEq, reduceCtorEq, and_self, implies_true, eq_self, Classical.not_not, and_false, false_and, ite_true, ite_false, reduceIte, bI_0, or_false, false_or, or_true, true_or, or_self, if_true, if_false, n_le_t, n_le_f, n_lt_t, n_lt_f, n_eq_t, n_eq_f, n_toInt, n_cl, n_vp, n_eqM, M_eqn, n_leM, n_ltM, M_len, M_ltn, M_add, n_sub, iM_toInt, x_lt_t, x_lt_f, x_le_t, x_le_f, lt_x_t, lt_x_f, le_x_t, le_x_f, x_eq_f, nI_add, pk_mul, bI_t, bI_f, Int32.toInt_toInt64, n_subI, x_add0, i_le_t, i_le_f, i_lt_t, i_lt_f, k_le_t, k_le_f, k_lt_t, k_lt_f, li_0, li_1, li_2, li_3, li_4, li_5, li_6, li_7, li_8, li_9, li_10, li_11, li_12, li_16, li_20, li_24, li_25, li_26, li_30, li_31, li_32, li_40, li_48, li_49, li_57, li_59, li_60, li_63, li_64, li_65, li_90, li_96, li_97, li_106, li_122, li_255, li_300, li_600, li_800, li_900, li_1850, li_2000, li_2010, li_2040, li_2801, li_3300, li_4161, li_9999, li_10163, li_16500, li_16800, li_17100, li_18350, li_18510, li_18540, li_65536, li_100000, li_999999, li_1000000, li_2147483647, im_1, im_8, ll_0, ll_1, ll_2, ll_3, ll_4, ll_6, ll_16, ll_20, ll_40, ll_63, ll_800, ll_9999, jm_same, jm_ob, jm_ok, jm_il, jm_li, jm_lsame, jm_lob, jm_lok, Nat.reduceAdd, Nat.reduceMul, Nat.zero_add, Nat.add_zero, Nat.mul_zero, Nat.zero_mul, e_mw_isSmall, e_mw_isDigit, e_mw_isDigit0, e_mw_isGreat, e_xs_isSmall, e_xs_isFigure, e_xs_isGreat, e_mw_isLetter, e_xs_isLetter, e_isBlank, e_xs_isBlank, e_isFrom, e_isIn]
      refine x_goesOn (b := fun i => if i = x then 1 else b i) (B := 3 + 3 * (S + 1)) (hV1.r hR) hG1 hB1 hvx rfl (by omega) (by omega) (fun i hi hl => by have := hbd i hi hl; omega) ⟨hX.1, fun z => absurd z (Nat.lt_irrefl _)⟩ hRc (fun s hs => ?_)
      obtain ⟨v2, g2, y⟩ := s
      obtain ⟨⟨hV2, hG2, hB2⟩, h1, h2, h3, h4, h5, h6⟩ := hs
      simp only at hV2 hG2 hB2 h1 h2 h3 h4 h5 h6
      have hV3 : SV a ow u v2 := ⟨hV1.1.trans hV2.1, hV2.2.trans hV1.2⟩
      have hy : y ≤ 2147483647 := by rcases h5 with z | ⟨z, _⟩ <;> omega
      have hsame : ∀ i, i < 72 → (if i = x then 1 else b i) = 1 → g2 i = g i := fun i hi hb => by
        have := hset i hi hb
        have := h1 i
        rcases h2 i with z | z
        · exact z
        · omega
      have ht1 : min tw y ≤ tw := Nat.min_le_left _ _
      have ht2 : min tw y ≤ y := Nat.min_le_right _ _
      simp (disch := omega) only [e_min, forall_eq, forall_eq', exists_eq_left, exists_eq_left', true_and, and_true, true_implies, false_implies, not_true_eq_false, not_false_eq_true, Prod.mk.injEq, Option.some.injEq, reduceCtorEq, and_self, implies_true, eq_self, Classical.not_not, and_false, false_and, ite_true, ite_false, reduceIte, bI_0, or_false, false_or, or_true, true_or, or_self, if_true, if_false, n_le_t, n_le_f, n_lt_t, n_lt_f, n_eq_t, n_eq_f, n_toInt, n_cl, n_vp, n_eqM, M_eqn, n_leM, n_ltM, M_len, M_ltn, M_add, n_sub, iM_toInt, x_lt_t, x_lt_f, x_le_t, x_le_f, lt_x_t, lt_x_f, le_x_t, le_x_f, x_eq_f, nI_add, pk_mul, bI_t, bI_f, Int32.toInt_toInt64, n_subI, x_add0, i_le_t, i_le_f, i_lt_t, i_lt_f, k_le_t, k_le_f, k_lt_t, k_lt_f, li_0, li_1, li_2, li_3, li_4, li_5, li_6, li_7, li_8, li_9, li_10, li_11, li_12, li_16, li_20, li_24, li_25, li_26, li_30, li_31, li_32, li_40, li_48, li_49, li_57, li_59, li_60, li_63, li_64, li_65, li_90, li_96, li_97, li_106, li_122, li_255, li_300, li_600, li_800, li_900, li_1850, li_2000, li_2010, li_2040, li_2801, li_3300, li_4161, li_9999, li_10163, li_16500, li_16800, li_17100, li_18350, li_18510, li_18540, li_65536, li_100000, li_999999, li_1000000, li_2147483647, im_1, im_8, ll_0, ll_1, ll_2, ll_3, ll_4, ll_6, ll_16, ll_20, ll_40, ll_63, ll_800, ll_9999, jm_same, jm_ob, jm_ok, jm_il, jm_li, jm_lsame, jm_lob, jm_lok, Nat.reduceAdd, Nat.reduceMul, Nat.zero_add, Nat.add_zero, Nat.mul_zero, Nat.zero_mul, e_mw_isSmall, e_mw_isDigit, e_mw_isDigit0, e_mw_isGreat, e_xs_isSmall, e_xs_isFigure, e_xs_isGreat, e_mw_isLetter, e_xs_isLetter, e_isBlank, e_xs_isBlank, e_isFrom, e_isIn]
      refine x_nearest (hV3.r hR) hG2 hB2 (fun o2 hN2 => ih (S + 1) v2 g2 _ (min tw y) o2 (by omega) ⟨⟨hV3, hG2, hB2⟩, hcnt, ⟨h4.1, fun z => ?_⟩, h3, fun i j hi hj hbi hbj hl => ?_, fun i hi hbi => ?_, fun i hi hbi q => ?_, fun p q hpq => (hpr p q hpq).le h1 ht1, by omega⟩ hN2)
      · by_cases z2 : y < tw
        · rcases h5 with z3 | ⟨z3, z4⟩
          · omega
          · rw [show min tw y = g x by omega]; exact z4
        · rw [show min tw y = tw by omega]
          exact hX.2 (by omega)
      · rw [hsame i hi hbi]
        have e3 := hset i hi hbi
        have hjx : j ≠ x := fun z => by rw [z, if_pos rfl] at hbj; omega
        rw [if_neg hjx] at hbj
        rcases h2 j with z | z
        · have := x4 j hj hbj (by omega)
          omega
        · omega
      · rw [hsame i hi hbi]
        have := hset i hi hbi
        omega
      · rw [hsame i hi hbi]
        by_cases e : i = x
        · subst e
          by_cases hq : q < hN (sl m 0) 0
          · exact (h6 q hq).le (fun _ => Nat.le_refl _) ht2
          · exact fun d w hri _ => absurd hri.1 hq
        · rw [if_neg e] at hbi
          exact (hcl i hi hbi q).le h1 ht1
end XBU
