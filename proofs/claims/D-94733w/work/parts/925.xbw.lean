/-! PLAIN LAW: answers 41: clear, twin -/
set_option linter.unusedVariables false
theorem cnt_0 {p : Nat → Prop} (hp : ∀ k, ¬ p k) : ∀ n, cnt p n = 0
  | 0 => rfl
  | n + 1 => by
    show cnt p n + _ = 0
    rw [cnt_0 hp n, cI_f (hp n)]
section XBW
variable {a : Nat → Nat} {K : XK} {ow : Nat → Nat} {u v : XS} {m : MS}
set_option maxHeartbeats 4000000 in
theorem x_hanging {P : Int32 → XS → Prop} (hR : Rep a K ow u m) (hP : ∀ v tw, SV a ow u v → tw ≤ 2147483647 → LW (sl m 0) (if tw < 2147483647 then some tw else none) → P (if tw < 2147483647 then nI tw else iM) v) : xw0_hanging (a 0) K u P := by
  obtain ⟨k0, _, k18, o18, _, k19, o19, o0⟩ := XGg.ar hR
  have ebb : vp_nar .boolean (nI 0) = nI 0 := rfl
  unfold xw0_hanging
  simp (disch := omega) only [forall_eq, forall_eq', exists_eq_left, exists_eq_left', true_and, and_true, true_implies, false_implies, not_true_eq_false, not_false_eq_true, Prod.mk.injEq, Option.some.injEq, reduceCtorEq, and_self, implies_true, eq_self, Classical.not_not, and_false, false_and, ite_true, ite_false, reduceIte, bI_0, or_false, false_or, or_true, true_or, or_self, if_true, if_false, n_le_t, n_le_f, n_lt_t, n_lt_f, n_eq_t, n_eq_f, n_toInt, n_cl, n_vp, n_eqM, M_eqn, n_leM, n_ltM, M_len, M_ltn, M_add, n_sub, iM_toInt, x_lt_t, x_lt_f, x_le_t, x_le_f, lt_x_t, lt_x_f, le_x_t, le_x_f, x_eq_f, nI_add, pk_mul, bI_t, bI_f, Int32.toInt_toInt64, n_subI, x_add0, i_le_t, i_le_f, i_lt_t, i_lt_f, k_le_t, k_le_f, k_lt_t, k_lt_f, li_0, li_1, li_2, li_3, li_4, li_5, li_6, li_7, li_8, li_9, li_10, li_11, li_12, li_16, li_20, li_24, li_25, li_26, li_30, li_31, li_32, li_40, li_48, li_49, li_57, li_59, li_60, li_63, li_64, li_65, li_90, li_96, li_97, li_106, li_122, li_255, li_300, li_600, li_800, li_900, li_1850, li_2000, li_2010, li_2040, li_2801, li_3300, li_4161, li_9999, li_10163, li_16500, li_16800, li_17100, li_18350, li_18510, li_18540, li_65536, li_100000, li_999999, li_1000000, li_2147483647, im_1, im_8, ll_0, ll_1, ll_2, ll_3, ll_4, ll_6, ll_16, ll_20, ll_40, ll_63, ll_800, ll_9999, jm_same, jm_ob, jm_ok, jm_il, jm_li, jm_lsame, jm_lob, jm_lok, Nat.reduceAdd, Nat.reduceMul, Nat.zero_add, Nat.add_zero, Nat.mul_zero, Nat.zero_mul, e_mw_isSmall, e_mw_isDigit, e_mw_isDigit0, e_mw_isGreat, e_xs_isSmall, e_xs_isFigure, e_xs_isGreat, e_mw_isLetter, e_xs_isLetter, e_isBlank, e_xs_isBlank, e_isFrom, e_isIn]
  refine lp_st (fun n k v => xw0_hanging_L6 P K (a 0) (nI 2147483647) n (nI k) v) (fun k v => SV a ow u v ∧ ∀ i, i < k → xi v (a 18) i = nI 2147483647 ∧ xi v (a 19) i = nI 0) 72 0 u (Nat.zero_le _) ⟨⟨QX.refl, rfl⟩, fun i hi => by omega⟩ (fun n v hI => ?_) (fun n k v hk hI ih => ?_)
  · obtain ⟨hV, hv⟩ := hI
    obtain ⟨_, p22, _, _, p23, _⟩ := XGg.ar (hV.r hR)
    unfold xw0_hanging_L6 xw0_hanging_L6_S
    simp (disch := omega) only [k0, p22, k18, forall_eq, forall_eq', exists_eq_left, exists_eq_left', true_and, and_true, true_implies, false_implies, not_true_eq_false, not_false_eq_true, Prod.mk.injEq, Option.some.injEq, reduceCtorEq, and_self, implies_true, eq_self, Classical.not_not, and_false, false_and, ite_true, ite_false, reduceIte, bI_0, or_false, false_or, or_true, true_or, or_self, if_true, if_false, n_le_t, n_le_f, n_lt_t, n_lt_f, n_eq_t, n_eq_f, n_toInt, n_cl, n_vp, n_eqM, M_eqn, n_leM, n_ltM, M_len, M_ltn, M_add, n_sub, iM_toInt, x_lt_t, x_lt_f, x_le_t, x_le_f, lt_x_t, lt_x_f, le_x_t, le_x_f, x_eq_f, nI_add, pk_mul, bI_t, bI_f, Int32.toInt_toInt64, n_subI, x_add0, i_le_t, i_le_f, i_lt_t, i_lt_f, k_le_t, k_le_f, k_lt_t, k_lt_f, li_0, li_1, li_2, li_3, li_4, li_5, li_6, li_7, li_8, li_9, li_10, li_11, li_12, li_16, li_20, li_24, li_25, li_26, li_30, li_31, li_32, li_40, li_48, li_49, li_57, li_59, li_60, li_63, li_64, li_65, li_90, li_96, li_97, li_106, li_122, li_255, li_300, li_600, li_800, li_900, li_1850, li_2000, li_2010, li_2040, li_2801, li_3300, li_4161, li_9999, li_10163, li_16500, li_16800, li_17100, li_18350, li_18510, li_18540, li_65536, li_100000, li_999999, li_1000000, li_2147483647, im_1, im_8, ll_0, ll_1, ll_2, ll_3, ll_4, ll_6, ll_16, ll_20, ll_40, ll_63, ll_800, ll_9999, jm_same, jm_ob, jm_ok, jm_il, jm_li, jm_lsame, jm_lob, jm_lok, Nat.reduceAdd, Nat.reduceMul, Nat.zero_add, Nat.add_zero, Nat.mul_zero, Nat.zero_mul, e_mw_isSmall, e_mw_isDigit, e_mw_isDigit0, e_mw_isGreat, e_xs_isSmall, e_xs_isFigure, e_xs_isGreat, e_mw_isLetter, e_xs_isLetter, e_isBlank, e_xs_isBlank, e_isFrom, e_isIn]
    refine x_pairs hR (fun s hs => ?_) (fun i hi => ⟨(hv i hi).1, Nat.le_refl _⟩) (fun i hi => ⟨(hv i hi).2, Nat.zero_le _⟩) hV
    obtain ⟨v2, g, tw⟩ := s
    obtain ⟨⟨hV2, hG, hB⟩, hX, hbd, htw, hpx⟩ := hs
    refine x_nearest (hV2.r hR) hG hB (fun o hN => ⟨73, x_main hR hP 72 0 v2 g (fun _ => 0) tw o rfl ⟨⟨hV2, hG, hB⟩, (cnt_0 (fun k => by show ¬ (0 : Nat) = 1; omega) 72).symm, hX, hbd, fun i j _ _ z => by simp at z, fun i _ z => by simp at z, fun x _ z => by simp at z, fun p q hpq => hpx p q (Or.inl hpq.2.1.1) hpq, htw⟩ hN⟩)
  · obtain ⟨hV, hv⟩ := hI
    obtain ⟨_, p22, _, _, p23, _⟩ := XGg.ar (hV.r hR)
    have hV1 : SV a ow u (xsi v (a 18) k (nI 2147483647)) := hV.s (by rw [o18]; unfold xsc; omega) o0
    have hV2 : SV a ow u (xsi (xsi v (a 18) k (nI 2147483647)) (a 19) k (nI 0)) := hV1.s (by rw [o19]; unfold xsc; omega) o0
    obtain ⟨_, _, _, _, p23', _⟩ := XGg.ar (hV1.r hR)
    have := ih _ ⟨hV2, fun i hi => by
      rw [xi_oa ow (by omega)]
      by_cases e : i = k
      · subst e
        exact ⟨xi_same, xi_same⟩
      · rw [xi_ok e, xi_ok e, xi_oa ow (by omega)]
        exact hv i (by omega)⟩
    unfold xw0_hanging_L6 xw0_hanging_L6_S
    simp (disch := omega) only [k0, p22, k18, p23', k19, ebb, forall_eq, forall_eq', exists_eq_left, exists_eq_left', true_and, and_true, true_implies, false_implies, not_true_eq_false, not_false_eq_true, Prod.mk.injEq, Option.some.injEq, reduceCtorEq, and_self, implies_true, eq_self, Classical.not_not, and_false, false_and, ite_true, ite_false, reduceIte, bI_0, or_false, false_or, or_true, true_or, or_self, if_true, if_false, n_le_t, n_le_f, n_lt_t, n_lt_f, n_eq_t, n_eq_f, n_toInt, n_cl, n_vp, n_eqM, M_eqn, n_leM, n_ltM, M_len, M_ltn, M_add, n_sub, iM_toInt, x_lt_t, x_lt_f, x_le_t, x_le_f, lt_x_t, lt_x_f, le_x_t, le_x_f, x_eq_f, nI_add, pk_mul, bI_t, bI_f, Int32.toInt_toInt64, n_subI, x_add0, i_le_t, i_le_f, i_lt_t, i_lt_f, k_le_t, k_le_f, k_lt_t, k_lt_f, li_0, li_1, li_2, li_3, li_4, li_5, li_6, li_7, li_8, li_9, li_10, li_11, li_12, li_16, li_20, li_24, li_25, li_26, li_30, li_31, li_32, li_40, li_48, li_49, li_57, li_59, li_60, li_63, li_64, li_65, li_90, li_96, li_97, li_106, li_122, li_255, li_300, li_600, li_800, li_900, li_1850, li_2000, li_2010, li_2040, li_2801, li_3300, li_4161, li_9999, li_10163, li_16500, li_16800, li_17100, li_18350, li_18510, li_18540, li_65536, li_100000, li_999999, li_1000000, li_2147483647, im_1, im_8, ll_0, ll_1, ll_2, ll_3, ll_4, ll_6, ll_16, ll_20, ll_40, ll_63, ll_800, ll_9999, jm_same, jm_ob, jm_ok, jm_il, jm_li, jm_lsame, jm_lob, jm_lok, Nat.reduceAdd, Nat.reduceMul, Nat.zero_add, Nat.add_zero, Nat.mul_zero, Nat.zero_mul, e_mw_isSmall, e_mw_isDigit, e_mw_isDigit0, e_mw_isGreat, e_xs_isSmall, e_xs_isFigure, e_xs_isGreat, e_mw_isLetter, e_xs_isLetter, e_isBlank, e_xs_isBlank, e_isFrom, e_isIn]
    exact this
set_option maxHeartbeats 4000000 in
theorem q_clear (hR : Rep a K ow u m) : QQ a ow u m (fun u P => xw0_clear (a 0) K u P) mw_clear := by
  have hT : WT (sl m 0) := hR.2.2.2.1.1
  have k0 := (XGg.ar hR).1
  obtain ⟨res, hres⟩ := LW.ex (sl m 0)
  have es : sl (jm_s m 0 1 (nI 0)) 0 = sl m 0 := sl_st
  have hx : ∀ P : Int32 → XS → Prop, (∀ v tw, QX ow (a 0) u v → xi v (a 0) 7 = nI 0 → tw ≤ 2147483647 → (if tw < 2147483647 then some tw else none) = res → P (if tw < 2147483647 then nI tw else iM) v) → xw0_hanging (a 0) K (xsi u (a 0) 7 (nI 0)) P := fun P hP => by
    refine x_hanging (hR.st (nI 0)) (fun v tw hV h1 h2 => hP v tw ((QX.st QX.refl).trans hV.1) (by rw [hV.2]; exact xi_same) h1 ?_)
    rw [es] at h2
    exact h2.un hres
  cases res with
  | none =>
    refine ⟨nI 1, nI 0, fun P hP => ?_, fun P hP => ?_⟩
    · unfold xw0_clear
      simp (disch := omega) only [k0, forall_eq, forall_eq', exists_eq_left, exists_eq_left', true_and, and_true, true_implies, false_implies, not_true_eq_false, not_false_eq_true, Prod.mk.injEq, Option.some.injEq, reduceCtorEq, and_self, implies_true, eq_self, Classical.not_not, and_false, false_and, ite_true, ite_false, reduceIte, bI_0, or_false, false_or, or_true, true_or, or_self, if_true, if_false, n_le_t, n_le_f, n_lt_t, n_lt_f, n_eq_t, n_eq_f, n_toInt, n_cl, n_vp, n_eqM, M_eqn, n_leM, n_ltM, M_len, M_ltn, M_add, n_sub, iM_toInt, x_lt_t, x_lt_f, x_le_t, x_le_f, lt_x_t, lt_x_f, le_x_t, le_x_f, x_eq_f, nI_add, pk_mul, bI_t, bI_f, Int32.toInt_toInt64, n_subI, x_add0, i_le_t, i_le_f, i_lt_t, i_lt_f, k_le_t, k_le_f, k_lt_t, k_lt_f, li_0, li_1, li_2, li_3, li_4, li_5, li_6, li_7, li_8, li_9, li_10, li_11, li_12, li_16, li_20, li_24, li_25, li_26, li_30, li_31, li_32, li_40, li_48, li_49, li_57, li_59, li_60, li_63, li_64, li_65, li_90, li_96, li_97, li_106, li_122, li_255, li_300, li_600, li_800, li_900, li_1850, li_2000, li_2010, li_2040, li_2801, li_3300, li_4161, li_9999, li_10163, li_16500, li_16800, li_17100, li_18350, li_18510, li_18540, li_65536, li_100000, li_999999, li_1000000, li_2147483647, im_1, im_8, ll_0, ll_1, ll_2, ll_3, ll_4, ll_6, ll_16, ll_20, ll_40, ll_63, ll_800, ll_9999, jm_same, jm_ob, jm_ok, jm_il, jm_li, jm_lsame, jm_lob, jm_lok, Nat.reduceAdd, Nat.reduceMul, Nat.zero_add, Nat.add_zero, Nat.mul_zero, Nat.zero_mul, e_mw_isSmall, e_mw_isDigit, e_mw_isDigit0, e_mw_isGreat, e_xs_isSmall, e_xs_isFigure, e_xs_isGreat, e_mw_isLetter, e_xs_isLetter, e_isBlank, e_xs_isBlank, e_isFrom, e_isIn]
      refine hx _ (fun v tw h1 h2 h3 h4 => ?_)
      by_cases z : tw < 2147483647
      · rw [if_pos z] at h4; simp at h4
      · rw [if_neg z]
        have zz : (nI 0 ≤ iM) = False := by rw [i_n0, iM_toInt]; exact eq_false (by omega)
        simp (disch := omega) only [zz, forall_eq, forall_eq', exists_eq_left, exists_eq_left', true_and, and_true, true_implies, false_implies, not_true_eq_false, not_false_eq_true, Prod.mk.injEq, Option.some.injEq, reduceCtorEq, and_self, implies_true, eq_self, Classical.not_not, and_false, false_and, ite_true, ite_false, reduceIte, bI_0, or_false, false_or, or_true, true_or, or_self, if_true, if_false, n_le_t, n_le_f, n_lt_t, n_lt_f, n_eq_t, n_eq_f, n_toInt, n_cl, n_vp, n_eqM, M_eqn, n_leM, n_ltM, M_len, M_ltn, M_add, n_sub, iM_toInt, x_lt_t, x_lt_f, x_le_t, x_le_f, lt_x_t, lt_x_f, le_x_t, le_x_f, x_eq_f, nI_add, pk_mul, bI_t, bI_f, Int32.toInt_toInt64, n_subI, x_add0, i_le_t, i_le_f, i_lt_t, i_lt_f, k_le_t, k_le_f, k_lt_t, k_lt_f, li_0, li_1, li_2, li_3, li_4, li_5, li_6, li_7, li_8, li_9, li_10, li_11, li_12, li_16, li_20, li_24, li_25, li_26, li_30, li_31, li_32, li_40, li_48, li_49, li_57, li_59, li_60, li_63, li_64, li_65, li_90, li_96, li_97, li_106, li_122, li_255, li_300, li_600, li_800, li_900, li_1850, li_2000, li_2010, li_2040, li_2801, li_3300, li_4161, li_9999, li_10163, li_16500, li_16800, li_17100, li_18350, li_18510, li_18540, li_65536, li_100000, li_999999, li_1000000, li_2147483647, im_1, im_8, ll_0, ll_1, ll_2, ll_3, ll_4, ll_6, ll_16, ll_20, ll_40, ll_63, ll_800, ll_9999, jm_same, jm_ob, jm_ok, jm_il, jm_li, jm_lsame, jm_lob, jm_lok, Nat.reduceAdd, Nat.reduceMul, Nat.zero_add, Nat.add_zero, Nat.mul_zero, Nat.zero_mul, e_mw_isSmall, e_mw_isDigit, e_mw_isDigit0, e_mw_isGreat, e_xs_isSmall, e_xs_isFigure, e_xs_isGreat, e_mw_isLetter, e_xs_isLetter, e_isBlank, e_xs_isBlank, e_isFrom, e_isIn]
        exact hP v h1 h2
    · unfold mw_clear
      refine m_twinOf hT (fun n y hq h1 h2 => ?_)
      have h4 := h2.un hres
      by_cases z : y < 1000000
      · rw [if_pos z] at h4; simp at h4
      · have : y = 1000000 := by omega
        subst this
        simp (disch := omega) only [mw_gives, forall_eq, forall_eq', exists_eq_left, exists_eq_left', true_and, and_true, true_implies, false_implies, not_true_eq_false, not_false_eq_true, Prod.mk.injEq, Option.some.injEq, reduceCtorEq, and_self, implies_true, eq_self, Classical.not_not, and_false, false_and, ite_true, ite_false, reduceIte, bI_0, or_false, false_or, or_true, true_or, or_self, if_true, if_false, n_le_t, n_le_f, n_lt_t, n_lt_f, n_eq_t, n_eq_f, n_toInt, n_cl, n_vp, n_eqM, M_eqn, n_leM, n_ltM, M_len, M_ltn, M_add, n_sub, iM_toInt, x_lt_t, x_lt_f, x_le_t, x_le_f, lt_x_t, lt_x_f, le_x_t, le_x_f, x_eq_f, nI_add, pk_mul, bI_t, bI_f, Int32.toInt_toInt64, n_subI, x_add0, i_le_t, i_le_f, i_lt_t, i_lt_f, k_le_t, k_le_f, k_lt_t, k_lt_f, li_0, li_1, li_2, li_3, li_4, li_5, li_6, li_7, li_8, li_9, li_10, li_11, li_12, li_16, li_20, li_24, li_25, li_26, li_30, li_31, li_32, li_40, li_48, li_49, li_57, li_59, li_60, li_63, li_64, li_65, li_90, li_96, li_97, li_106, li_122, li_255, li_300, li_600, li_800, li_900, li_1850, li_2000, li_2010, li_2040, li_2801, li_3300, li_4161, li_9999, li_10163, li_16500, li_16800, li_17100, li_18350, li_18510, li_18540, li_65536, li_100000, li_999999, li_1000000, li_2147483647, im_1, im_8, ll_0, ll_1, ll_2, ll_3, ll_4, ll_6, ll_16, ll_20, ll_40, ll_63, ll_800, ll_9999, jm_same, jm_ob, jm_ok, jm_il, jm_li, jm_lsame, jm_lob, jm_lok, Nat.reduceAdd, Nat.reduceMul, Nat.zero_add, Nat.add_zero, Nat.mul_zero, Nat.zero_mul, e_mw_isSmall, e_mw_isDigit, e_mw_isDigit0, e_mw_isGreat, e_xs_isSmall, e_xs_isFigure, e_xs_isGreat, e_mw_isLetter, e_xs_isLetter, e_isBlank, e_xs_isBlank, e_isFrom, e_isIn]
        exact hP _ (QM.s hq (by unfold scr; omega)) jm_same
  | some d =>
    refine ⟨nI 0, nI 0, fun P hP => ?_, fun P hP => ?_⟩
    · unfold xw0_clear
      simp (disch := omega) only [k0, forall_eq, forall_eq', exists_eq_left, exists_eq_left', true_and, and_true, true_implies, false_implies, not_true_eq_false, not_false_eq_true, Prod.mk.injEq, Option.some.injEq, reduceCtorEq, and_self, implies_true, eq_self, Classical.not_not, and_false, false_and, ite_true, ite_false, reduceIte, bI_0, or_false, false_or, or_true, true_or, or_self, if_true, if_false, n_le_t, n_le_f, n_lt_t, n_lt_f, n_eq_t, n_eq_f, n_toInt, n_cl, n_vp, n_eqM, M_eqn, n_leM, n_ltM, M_len, M_ltn, M_add, n_sub, iM_toInt, x_lt_t, x_lt_f, x_le_t, x_le_f, lt_x_t, lt_x_f, le_x_t, le_x_f, x_eq_f, nI_add, pk_mul, bI_t, bI_f, Int32.toInt_toInt64, n_subI, x_add0, i_le_t, i_le_f, i_lt_t, i_lt_f, k_le_t, k_le_f, k_lt_t, k_lt_f, li_0, li_1, li_2, li_3, li_4, li_5, li_6, li_7, li_8, li_9, li_10, li_11, li_12, li_16, li_20, li_24, li_25, li_26, li_30, li_31, li_32, li_40, li_48, li_49, li_57, li_59, li_60, li_63, li_64, li_65, li_90, li_96, li_97, li_106, li_122, li_255, li_300, li_600, li_800, li_900, li_1850, li_2000, li_2010, li_2040, li_2801, li_3300, li_4161, li_9999, li_10163, li_16500, li_16800, li_17100, li_18350, li_18510, li_18540, li_65536, li_100000, li_999999, li_1000000, li_2147483647, im_1, im_8, ll_0, ll_1, ll_2, ll_3, ll_4, ll_6, ll_16, ll_20, ll_40, ll_63, ll_800, ll_9999, jm_same, jm_ob, jm_ok, jm_il, jm_li, jm_lsame, jm_lob, jm_lok, Nat.reduceAdd, Nat.reduceMul, Nat.zero_add, Nat.add_zero, Nat.mul_zero, Nat.zero_mul, e_mw_isSmall, e_mw_isDigit, e_mw_isDigit0, e_mw_isGreat, e_xs_isSmall, e_xs_isFigure, e_xs_isGreat, e_mw_isLetter, e_xs_isLetter, e_isBlank, e_xs_isBlank, e_isFrom, e_isIn]
      refine hx _ (fun v tw h1 h2 h3 h4 => ?_)
      by_cases z : tw < 2147483647
      · rw [if_pos z]
        simp (disch := omega) only [forall_eq, forall_eq', exists_eq_left, exists_eq_left', true_and, and_true, true_implies, false_implies, not_true_eq_false, not_false_eq_true, Prod.mk.injEq, Option.some.injEq, reduceCtorEq, and_self, implies_true, eq_self, Classical.not_not, and_false, false_and, ite_true, ite_false, reduceIte, bI_0, or_false, false_or, or_true, true_or, or_self, if_true, if_false, n_le_t, n_le_f, n_lt_t, n_lt_f, n_eq_t, n_eq_f, n_toInt, n_cl, n_vp, n_eqM, M_eqn, n_leM, n_ltM, M_len, M_ltn, M_add, n_sub, iM_toInt, x_lt_t, x_lt_f, x_le_t, x_le_f, lt_x_t, lt_x_f, le_x_t, le_x_f, x_eq_f, nI_add, pk_mul, bI_t, bI_f, Int32.toInt_toInt64, n_subI, x_add0, i_le_t, i_le_f, i_lt_t, i_lt_f, k_le_t, k_le_f, k_lt_t, k_lt_f, li_0, li_1, li_2, li_3, li_4, li_5, li_6, li_7, li_8, li_9, li_10, li_11, li_12, li_16, li_20, li_24, li_25, li_26, li_30, li_31, li_32, li_40, li_48, li_49, li_57, li_59, li_60, li_63, li_64, li_65, li_90, li_96, li_97, li_106, li_122, li_255, li_300, li_600, li_800, li_900, li_1850, li_2000, li_2010, li_2040, li_2801, li_3300, li_4161, li_9999, li_10163, li_16500, li_16800, li_17100, li_18350, li_18510, li_18540, li_65536, li_100000, li_999999, li_1000000, li_2147483647, im_1, im_8, ll_0, ll_1, ll_2, ll_3, ll_4, ll_6, ll_16, ll_20, ll_40, ll_63, ll_800, ll_9999, jm_same, jm_ob, jm_ok, jm_il, jm_li, jm_lsame, jm_lob, jm_lok, Nat.reduceAdd, Nat.reduceMul, Nat.zero_add, Nat.add_zero, Nat.mul_zero, Nat.zero_mul, e_mw_isSmall, e_mw_isDigit, e_mw_isDigit0, e_mw_isGreat, e_xs_isSmall, e_xs_isFigure, e_xs_isGreat, e_mw_isLetter, e_xs_isLetter, e_isBlank, e_xs_isBlank, e_isFrom, e_isIn]
        exact hP v h1 h2
      · rw [if_neg z] at h4; simp at h4
    · unfold mw_clear
      refine m_twinOf hT (fun n y hq h1 h2 => ?_)
      have h4 := h2.un hres
      by_cases z : y < 1000000
      · have zz : (nI y = nI 1000000) = False := nI_ne (by omega) (by omega) (by omega)
        simp (disch := omega) only [zz, mw_gives, forall_eq, forall_eq', exists_eq_left, exists_eq_left', true_and, and_true, true_implies, false_implies, not_true_eq_false, not_false_eq_true, Prod.mk.injEq, Option.some.injEq, reduceCtorEq, and_self, implies_true, eq_self, Classical.not_not, and_false, false_and, ite_true, ite_false, reduceIte, bI_0, or_false, false_or, or_true, true_or, or_self, if_true, if_false, n_le_t, n_le_f, n_lt_t, n_lt_f, n_eq_t, n_eq_f, n_toInt, n_cl, n_vp, n_eqM, M_eqn, n_leM, n_ltM, M_len, M_ltn, M_add, n_sub, iM_toInt, x_lt_t, x_lt_f, x_le_t, x_le_f, lt_x_t, lt_x_f, le_x_t, le_x_f, x_eq_f, nI_add, pk_mul, bI_t, bI_f, Int32.toInt_toInt64, n_subI, x_add0, i_le_t, i_le_f, i_lt_t, i_lt_f, k_le_t, k_le_f, k_lt_t, k_lt_f, li_0, li_1, li_2, li_3, li_4, li_5, li_6, li_7, li_8, li_9, li_10, li_11, li_12, li_16, li_20, li_24, li_25, li_26, li_30, li_31, li_32, li_40, li_48, li_49, li_57, li_59, li_60, li_63, li_64, li_65, li_90, li_96, li_97, li_106, li_122, li_255, li_300, li_600, li_800, li_900, li_1850, li_2000, li_2010, li_2040, li_2801, li_3300, li_4161, li_9999, li_10163, li_16500, li_16800, li_17100, li_18350, li_18510, li_18540, li_65536, li_100000, li_999999, li_1000000, li_2147483647, im_1, im_8, ll_0, ll_1, ll_2, ll_3, ll_4, ll_6, ll_16, ll_20, ll_40, ll_63, ll_800, ll_9999, jm_same, jm_ob, jm_ok, jm_il, jm_li, jm_lsame, jm_lob, jm_lok, Nat.reduceAdd, Nat.reduceMul, Nat.zero_add, Nat.add_zero, Nat.mul_zero, Nat.zero_mul, e_mw_isSmall, e_mw_isDigit, e_mw_isDigit0, e_mw_isGreat, e_xs_isSmall, e_xs_isFigure, e_xs_isGreat, e_mw_isLetter, e_xs_isLetter, e_isBlank, e_xs_isBlank, e_isFrom, e_isIn]
        exact hP _ (QM.s hq (by unfold scr; omega)) jm_same
      · rw [if_neg z] at h4; simp at h4
set_option maxHeartbeats 4000000 in
theorem q_twin (hR : Rep a K ow u m) : QQ a ow u m (fun u P => xw0_twin (a 0) K u P) mw_twin := by
  have hT : WT (sl m 0) := hR.2.2.2.1.1
  have k0 := (XGg.ar hR).1
  obtain ⟨res, hres⟩ := LW.ex (sl m 0)
  have hx : ∀ P : Int32 → XS → Prop, (∀ v tw, QX ow (a 0) u v → tw ≤ 2147483647 → (if tw < 2147483647 then some tw else none) = res → P (if tw < 2147483647 then nI tw else iM) v) → xw0_hanging (a 0) K u P := fun P hP => by
    refine x_hanging hR (fun v tw hV h1 h2 => hP v tw hV.1 h1 ?_)
    exact h2.un hres
  cases res with
  | none =>
    refine ⟨iM, nI 6, fun P hP => ?_, fun P hP => ?_⟩
    · unfold xw0_twin
      refine ⟨k0, hx _ (fun v tw h1 h3 h4 => ?_)⟩
      by_cases z : tw < 2147483647
      · rw [if_pos z] at h4; simp at h4
      · rw [if_neg z]
        have zz : (nI 0 ≤ iM) = False := by rw [i_n0, iM_toInt]; exact eq_false (by omega)
        simp (disch := omega) only [xw0_answer, zz, k0, forall_eq, forall_eq', exists_eq_left, exists_eq_left', true_and, and_true, true_implies, false_implies, not_true_eq_false, not_false_eq_true, Prod.mk.injEq, Option.some.injEq, reduceCtorEq, and_self, implies_true, eq_self, Classical.not_not, and_false, false_and, ite_true, ite_false, reduceIte, bI_0, or_false, false_or, or_true, true_or, or_self, if_true, if_false, n_le_t, n_le_f, n_lt_t, n_lt_f, n_eq_t, n_eq_f, n_toInt, n_cl, n_vp, n_eqM, M_eqn, n_leM, n_ltM, M_len, M_ltn, M_add, n_sub, iM_toInt, x_lt_t, x_lt_f, x_le_t, x_le_f, lt_x_t, lt_x_f, le_x_t, le_x_f, x_eq_f, nI_add, pk_mul, bI_t, bI_f, Int32.toInt_toInt64, n_subI, x_add0, i_le_t, i_le_f, i_lt_t, i_lt_f, k_le_t, k_le_f, k_lt_t, k_lt_f, li_0, li_1, li_2, li_3, li_4, li_5, li_6, li_7, li_8, li_9, li_10, li_11, li_12, li_16, li_20, li_24, li_25, li_26, li_30, li_31, li_32, li_40, li_48, li_49, li_57, li_59, li_60, li_63, li_64, li_65, li_90, li_96, li_97, li_106, li_122, li_255, li_300, li_600, li_800, li_900, li_1850, li_2000, li_2010, li_2040, li_2801, li_3300, li_4161, li_9999, li_10163, li_16500, li_16800, li_17100, li_18350, li_18510, li_18540, li_65536, li_100000, li_999999, li_1000000, li_2147483647, im_1, im_8, ll_0, ll_1, ll_2, ll_3, ll_4, ll_6, ll_16, ll_20, ll_40, ll_63, ll_800, ll_9999, jm_same, jm_ob, jm_ok, jm_il, jm_li, jm_lsame, jm_lob, jm_lok, Nat.reduceAdd, Nat.reduceMul, Nat.zero_add, Nat.add_zero, Nat.mul_zero, Nat.zero_mul, e_mw_isSmall, e_mw_isDigit, e_mw_isDigit0, e_mw_isGreat, e_xs_isSmall, e_xs_isFigure, e_xs_isGreat, e_mw_isLetter, e_xs_isLetter, e_isBlank, e_xs_isBlank, e_isFrom, e_isIn]
        exact hP _ (QX.st h1) xi_same
    · unfold mw_twin
      refine m_twinOf hT (fun n y hq h1 h2 => ?_)
      have h4 := h2.un hres
      by_cases z : y < 1000000
      · rw [if_pos z] at h4; simp at h4
      · have : y = 1000000 := by omega
        subst this
        simp (disch := omega) only [mw_refuse, forall_eq, forall_eq', exists_eq_left, exists_eq_left', true_and, and_true, true_implies, false_implies, not_true_eq_false, not_false_eq_true, Prod.mk.injEq, Option.some.injEq, reduceCtorEq, and_self, implies_true, eq_self, Classical.not_not, and_false, false_and, ite_true, ite_false, reduceIte, bI_0, or_false, false_or, or_true, true_or, or_self, if_true, if_false, n_le_t, n_le_f, n_lt_t, n_lt_f, n_eq_t, n_eq_f, n_toInt, n_cl, n_vp, n_eqM, M_eqn, n_leM, n_ltM, M_len, M_ltn, M_add, n_sub, iM_toInt, x_lt_t, x_lt_f, x_le_t, x_le_f, lt_x_t, lt_x_f, le_x_t, le_x_f, x_eq_f, nI_add, pk_mul, bI_t, bI_f, Int32.toInt_toInt64, n_subI, x_add0, i_le_t, i_le_f, i_lt_t, i_lt_f, k_le_t, k_le_f, k_lt_t, k_lt_f, li_0, li_1, li_2, li_3, li_4, li_5, li_6, li_7, li_8, li_9, li_10, li_11, li_12, li_16, li_20, li_24, li_25, li_26, li_30, li_31, li_32, li_40, li_48, li_49, li_57, li_59, li_60, li_63, li_64, li_65, li_90, li_96, li_97, li_106, li_122, li_255, li_300, li_600, li_800, li_900, li_1850, li_2000, li_2010, li_2040, li_2801, li_3300, li_4161, li_9999, li_10163, li_16500, li_16800, li_17100, li_18350, li_18510, li_18540, li_65536, li_100000, li_999999, li_1000000, li_2147483647, im_1, im_8, ll_0, ll_1, ll_2, ll_3, ll_4, ll_6, ll_16, ll_20, ll_40, ll_63, ll_800, ll_9999, jm_same, jm_ob, jm_ok, jm_il, jm_li, jm_lsame, jm_lob, jm_lok, Nat.reduceAdd, Nat.reduceMul, Nat.zero_add, Nat.add_zero, Nat.mul_zero, Nat.zero_mul, e_mw_isSmall, e_mw_isDigit, e_mw_isDigit0, e_mw_isGreat, e_xs_isSmall, e_xs_isFigure, e_xs_isGreat, e_mw_isLetter, e_xs_isLetter, e_isBlank, e_xs_isBlank, e_isFrom, e_isIn]
        exact hP _ (QM.s hq (by unfold scr; omega)) jm_same
  | some d =>
    refine ⟨nI d, nI 0, fun P hP => ?_, fun P hP => ?_⟩
    · unfold xw0_twin
      refine ⟨k0, hx _ (fun v tw h1 h3 h4 => ?_)⟩
      by_cases z : tw < 2147483647
      · rw [if_pos z] at h4 ⊢
        injection h4 with h4
        subst h4
        simp (disch := omega) only [xw0_answer, k0, forall_eq, forall_eq', exists_eq_left, exists_eq_left', true_and, and_true, true_implies, false_implies, not_true_eq_false, not_false_eq_true, Prod.mk.injEq, Option.some.injEq, reduceCtorEq, and_self, implies_true, eq_self, Classical.not_not, and_false, false_and, ite_true, ite_false, reduceIte, bI_0, or_false, false_or, or_true, true_or, or_self, if_true, if_false, n_le_t, n_le_f, n_lt_t, n_lt_f, n_eq_t, n_eq_f, n_toInt, n_cl, n_vp, n_eqM, M_eqn, n_leM, n_ltM, M_len, M_ltn, M_add, n_sub, iM_toInt, x_lt_t, x_lt_f, x_le_t, x_le_f, lt_x_t, lt_x_f, le_x_t, le_x_f, x_eq_f, nI_add, pk_mul, bI_t, bI_f, Int32.toInt_toInt64, n_subI, x_add0, i_le_t, i_le_f, i_lt_t, i_lt_f, k_le_t, k_le_f, k_lt_t, k_lt_f, li_0, li_1, li_2, li_3, li_4, li_5, li_6, li_7, li_8, li_9, li_10, li_11, li_12, li_16, li_20, li_24, li_25, li_26, li_30, li_31, li_32, li_40, li_48, li_49, li_57, li_59, li_60, li_63, li_64, li_65, li_90, li_96, li_97, li_106, li_122, li_255, li_300, li_600, li_800, li_900, li_1850, li_2000, li_2010, li_2040, li_2801, li_3300, li_4161, li_9999, li_10163, li_16500, li_16800, li_17100, li_18350, li_18510, li_18540, li_65536, li_100000, li_999999, li_1000000, li_2147483647, im_1, im_8, ll_0, ll_1, ll_2, ll_3, ll_4, ll_6, ll_16, ll_20, ll_40, ll_63, ll_800, ll_9999, jm_same, jm_ob, jm_ok, jm_il, jm_li, jm_lsame, jm_lob, jm_lok, Nat.reduceAdd, Nat.reduceMul, Nat.zero_add, Nat.add_zero, Nat.mul_zero, Nat.zero_mul, e_mw_isSmall, e_mw_isDigit, e_mw_isDigit0, e_mw_isGreat, e_xs_isSmall, e_xs_isFigure, e_xs_isGreat, e_mw_isLetter, e_xs_isLetter, e_isBlank, e_xs_isBlank, e_isFrom, e_isIn]
        exact hP _ (QX.st h1) xi_same
      · rw [if_neg z] at h4; simp at h4
    · unfold mw_twin
      refine m_twinOf hT (fun n y hq h1 h2 => ?_)
      have h4 := h2.un hres
      by_cases z : y < 1000000
      · rw [if_pos z] at h4
        injection h4 with h4
        subst h4
        have zz : (nI y = nI 1000000) = False := nI_ne (by omega) (by omega) (by omega)
        simp (disch := omega) only [zz, mw_gives, forall_eq, forall_eq', exists_eq_left, exists_eq_left', true_and, and_true, true_implies, false_implies, not_true_eq_false, not_false_eq_true, Prod.mk.injEq, Option.some.injEq, reduceCtorEq, and_self, implies_true, eq_self, Classical.not_not, and_false, false_and, ite_true, ite_false, reduceIte, bI_0, or_false, false_or, or_true, true_or, or_self, if_true, if_false, n_le_t, n_le_f, n_lt_t, n_lt_f, n_eq_t, n_eq_f, n_toInt, n_cl, n_vp, n_eqM, M_eqn, n_leM, n_ltM, M_len, M_ltn, M_add, n_sub, iM_toInt, x_lt_t, x_lt_f, x_le_t, x_le_f, lt_x_t, lt_x_f, le_x_t, le_x_f, x_eq_f, nI_add, pk_mul, bI_t, bI_f, Int32.toInt_toInt64, n_subI, x_add0, i_le_t, i_le_f, i_lt_t, i_lt_f, k_le_t, k_le_f, k_lt_t, k_lt_f, li_0, li_1, li_2, li_3, li_4, li_5, li_6, li_7, li_8, li_9, li_10, li_11, li_12, li_16, li_20, li_24, li_25, li_26, li_30, li_31, li_32, li_40, li_48, li_49, li_57, li_59, li_60, li_63, li_64, li_65, li_90, li_96, li_97, li_106, li_122, li_255, li_300, li_600, li_800, li_900, li_1850, li_2000, li_2010, li_2040, li_2801, li_3300, li_4161, li_9999, li_10163, li_16500, li_16800, li_17100, li_18350, li_18510, li_18540, li_65536, li_100000, li_999999, li_1000000, li_2147483647, im_1, im_8, ll_0, ll_1, ll_2, ll_3, ll_4, ll_6, ll_16, ll_20, ll_40, ll_63, ll_800, ll_9999, jm_same, jm_ob, jm_ok, jm_il, jm_li, jm_lsame, jm_lob, jm_lok, Nat.reduceAdd, Nat.reduceMul, Nat.zero_add, Nat.add_zero, Nat.mul_zero, Nat.zero_mul, e_mw_isSmall, e_mw_isDigit, e_mw_isDigit0, e_mw_isGreat, e_xs_isSmall, e_xs_isFigure, e_xs_isGreat, e_mw_isLetter, e_xs_isLetter, e_isBlank, e_xs_isBlank, e_isFrom, e_isIn]
        exact hP _ (QM.s hq (by unfold scr; omega)) jm_same
      · rw [if_neg z] at h4; simp at h4
end XBW
