/-! PLAIN LAW: truths -/
set_option linter.unusedVariables false
section TRE
variable {a : Nat → Nat} {K : XK} {ow : Nat → Nat} {u v : XS} {m n : MS}
theorem m_trE {c : Nat} {P : Int32 → MS → Prop} (hT : WT (sl m 0)) (h1 : 1 ≤ c) (h2 : c ≤ 20) {A F : Nat → Int32} {W : Nat → Nat} (hW : ∀ k, W k ≤ 999999) (hq : QM m n) (hA : ∀ k, k < c → jm_i n 14 k = A k) (hF : ∀ k, k < c → jm_i n 15 k = F k) (hWv : ∀ k, k ≤ c → jm_i n 16 k = nI (W k))
    (hP : ∀ v, QM m v → jm_i v 0 1 = nI 0 → P (nI (tcD (sl m 0) A F W c 20 0 0 (fun _ => nI 0))) v) : ∃ q, mw_truths_L62 P (nI c) q (nI 0) (nI 0) (jm_s (jm_s n 18 0 iM) 19 0 (nI 0)) := by
  obtain ⟨q, hw⟩ := m_walk (Q := P) (A := A) (F := F) (many := c) hT h2 hW 20 0 0 (fun _ => 0) (fun _ => 0) 0 (by omega) (by omega) (Nat.le_refl _) (fun j hj => by omega) ⟨1, fun v hV => by
    unfold mw_truths_L62 mw_truths_L62_S
    have e : nI 0 + iM = iM := by decide
    rw [e]
    refine ⟨fun _ => ?_, fun z => absurd (by decide) z⟩
    unfold mw_gives
    intro u2 e2
    subst e2
    rw [Nat.zero_add]
    exact hP _ (QM.s hV.1 (by unfold scr; omega)) jm_same⟩
  refine ⟨q, hw _ ⟨(hq.s (by unfold scr; omega)).s (by unfold scr; omega), fun k hk => ?_, fun k hk => ?_, fun k hk => ?_, fun j hj => by omega⟩ (by rw [jm_ob (by omega), jm_same]) jm_same⟩
  · rw [jm_ob (by omega), jm_ob (by omega)]; exact hA k hk
  · rw [jm_ob (by omega), jm_ob (by omega)]; exact hF k hk
  · rw [jm_ob (by omega), jm_ob (by omega)]; exact hWv k hk
set_option maxHeartbeats 8000000 in
theorem q_truths (hR : Rep a K ow u m) (x y : Int32) : QA a K ow u m (fun mc ms P => xw0_truths (a 0) x y K u mc ms P) (mw_truths x y) := by
  have hR1 := hR.st (nI 0)
  have hT : WT (sl m 0) := hR.2.2.2.1.1
  have k0 := hR.1.1.1
  have k12 : K (a 12) = (1, 3) := hR.1.1.2.2.2.2.2.2.2.2.2.2.2.2.1
  have o0 : ow (a 0) = 0 := hR.1.2.1 0 (by omega)
  have o12 : ow (a 12) = 12 := hR.1.2.1 12 (by omega)
  have p6 : xr u (a 0) 6 = some (a 12) := hR.1.2.2.1.2.2.2.1
  have p15 : xr u (a 0) 15 = some (a 14) := hR.1.2.2.1.2.2.2.2.2.2.2.1
  have hTr : ∀ t, t < 4 → jm_i m 3 t = iM ∨ ∃ n2, jm_i m 3 t = nI n2 ∧ n2 ≤ 60 := fun t ht => (hR.2.2.1 t ht).tr3
  have eO : ∀ l, rowO (jm_s m 0 1 (nI 0)) x y l = rowO m x y l := fun l => rfl
  have esl : sl (jm_s m 0 1 (nI 0)) 0 = sl m 0 := sl_so (by omega)
  by_cases hz : rowO m x y 1 = 0
  · obtain ⟨i, c, rfl, hi, rfl, h1, h2⟩ := rowO_z hz
    have hW := fun k => wyW_le (h := sl m 0) (A := rwA m i) (F := fun _ => nI 0) (many := c) c k
    have hwm := hW 0
    by_cases hbig : 9999 < wyW (sl m 0) (rwA m i) (fun _ => nI 0) c c 0
    · refine ⟨iM, nI 7, fun mc ms P hmc hms hP => ?_, fun P hP => ?_⟩
      · unfold xw0_truths
        refine ⟨k0, fun u2 e2 => ⟨a 14, by rw [e2]; exact p15, 100, 1000, by omega, by omega, ?_⟩⟩
        have e2 : u2 = xsi u (a 0) 7 (nI 0) := e2
        subst e2
        refine x_waysC (P := fun r K13 u23 => ((9999 : Int32) < r → ∃ m39 w39, (100 + m39) ≤ mc ∧ (1000 + w39) ≤ ms ∧ xw0_want (a 0) (0 : Int32) (7 : Int32) K13 u23 m39 w39 (fun K39 u39 => _) (fun q39 K39 u39 => _)) ∧ (¬ (9999 : Int32) < r → _)) hR1 p15 (fun w v e hne hq => ?_) (fun i' c' v e ex hi' em y1 y2 hq hv hf hWv => ?_)
        · rw [eO, hz] at e; omega
        · have e1 : i = i' := (nI_eq (by omega) (by omega)).mp ex
          have e2 : c = c' := (nI_eq (by omega) (by omega)).mp em
          subst e1 e2
          rw [esl, show rwA (jm_s m 0 1 (nI 0)) i = rwA m i from rfl]
          refine ⟨fun _ => ⟨0, 0, by omega, by omega, x_want0 k0 (by rw [hq.2.2 _ _ (by omega)]; exact p6) k12 (x_none k0 k12 ?_)⟩, fun z => absurd (by rw [li_9999, n_lt_t (by omega) (by omega)]; trivial) z⟩
          have hq2 := QX.st (x := nI 7) (hq.st0.s (b := a 12) (k := 6) (x := nI 7) (by rw [o12]; unfold xsc; omega))
          exact hP K ow _ (XA.of hq2) (hR.vv hq2).to0.2 xi_same
      · unfold mw_truths
        refine m_wrongRow (least := 1) hTr (by omega) ?_
        rw [hz]
        simp (disch := omega) only [forall_eq, forall_eq', exists_eq_left, exists_eq_left', true_and, and_true, true_implies, false_implies, not_true_eq_false, not_false_eq_true, Prod.mk.injEq, Option.some.injEq, reduceCtorEq, and_self, implies_true, eq_self, Classical.not_not, and_false, false_and, ite_true, ite_false, reduceIte, bI_0, or_false, false_or, or_true, true_or, or_self, if_true, if_false, n_le_t, n_le_f, n_lt_t, n_lt_f, n_eq_t, n_eq_f, n_toInt, n_cl, n_vp, n_eqM, M_eqn, n_leM, n_ltM, M_len, M_ltn, M_add, n_sub, iM_toInt, x_lt_t, x_lt_f, x_le_t, x_le_f, lt_x_t, lt_x_f, le_x_t, le_x_f, x_eq_f, nI_add, pk_mul, bI_t, bI_f, Int32.toInt_toInt64, n_subI, x_add0, i_le_t, i_le_f, i_lt_t, i_lt_f, k_le_t, k_le_f, k_lt_t, k_lt_f, li_0, li_1, li_2, li_3, li_4, li_5, li_6, li_7, li_8, li_9, li_10, li_11, li_12, li_16, li_20, li_24, li_25, li_26, li_30, li_31, li_32, li_40, li_48, li_49, li_57, li_59, li_60, li_63, li_64, li_65, li_90, li_96, li_97, li_106, li_122, li_255, li_300, li_600, li_800, li_900, li_1850, li_2000, li_2010, li_2040, li_2801, li_3300, li_4161, li_9999, li_10163, li_16500, li_16800, li_17100, li_18350, li_18510, li_18540, li_65536, li_100000, li_999999, li_1000000, li_2147483647, im_1, im_8, ll_0, ll_1, ll_2, ll_3, ll_4, ll_6, ll_16, ll_20, ll_40, ll_63, ll_800, ll_9999, jm_same, jm_ob, jm_ok, jm_il, jm_li, jm_lsame, jm_lob, jm_lok, Nat.reduceAdd, Nat.reduceMul, Nat.zero_add, Nat.add_zero, Nat.mul_zero, Nat.zero_mul, e_mw_isSmall, e_mw_isDigit, e_mw_isDigit0, e_mw_isGreat, e_xs_isSmall, e_xs_isFigure, e_xs_isGreat, e_mw_isLetter, e_xs_isLetter, e_isBlank, e_xs_isBlank, e_isFrom, e_isIn]
        refine m_waysC hT hi h1 h2 (fun v g1 g2 g3 g4 g5 => ⟨fun z => absurd z (by rw [n_le_f (by omega) (by omega)]; exact id), fun _ => ?_⟩)
        try simp (disch := omega) only [mw_refuse, forall_eq, forall_eq', exists_eq_left, exists_eq_left', true_and, and_true, true_implies, false_implies, not_true_eq_false, not_false_eq_true, Prod.mk.injEq, Option.some.injEq, reduceCtorEq, and_self, implies_true, eq_self, Classical.not_not, and_false, false_and, ite_true, ite_false, reduceIte, bI_0, or_false, false_or, or_true, true_or, or_self, if_true, if_false, n_le_t, n_le_f, n_lt_t, n_lt_f, n_eq_t, n_eq_f, n_toInt, n_cl, n_vp, n_eqM, M_eqn, n_leM, n_ltM, M_len, M_ltn, M_add, n_sub, iM_toInt, x_lt_t, x_lt_f, x_le_t, x_le_f, lt_x_t, lt_x_f, le_x_t, le_x_f, x_eq_f, nI_add, pk_mul, bI_t, bI_f, Int32.toInt_toInt64, n_subI, x_add0, i_le_t, i_le_f, i_lt_t, i_lt_f, k_le_t, k_le_f, k_lt_t, k_lt_f, li_0, li_1, li_2, li_3, li_4, li_5, li_6, li_7, li_8, li_9, li_10, li_11, li_12, li_16, li_20, li_24, li_25, li_26, li_30, li_31, li_32, li_40, li_48, li_49, li_57, li_59, li_60, li_63, li_64, li_65, li_90, li_96, li_97, li_106, li_122, li_255, li_300, li_600, li_800, li_900, li_1850, li_2000, li_2010, li_2040, li_2801, li_3300, li_4161, li_9999, li_10163, li_16500, li_16800, li_17100, li_18350, li_18510, li_18540, li_65536, li_100000, li_999999, li_1000000, li_2147483647, im_1, im_8, ll_0, ll_1, ll_2, ll_3, ll_4, ll_6, ll_16, ll_20, ll_40, ll_63, ll_800, ll_9999, jm_same, jm_ob, jm_ok, jm_il, jm_li, jm_lsame, jm_lob, jm_lok, Nat.reduceAdd, Nat.reduceMul, Nat.zero_add, Nat.add_zero, Nat.mul_zero, Nat.zero_mul, e_mw_isSmall, e_mw_isDigit, e_mw_isDigit0, e_mw_isGreat, e_xs_isSmall, e_xs_isFigure, e_xs_isGreat, e_mw_isLetter, e_xs_isLetter, e_isBlank, e_xs_isBlank, e_isFrom, e_isIn]
        exact hP _ (QM.s (fun b k hs => ⟨g1 b k (fun z => hs (by unfold scr; omega)) (fun z => hs (by unfold scr; omega)) (fun z => hs (by unfold scr; omega)), g2 b k⟩) (by unfold scr; omega)) jm_same
    · refine ⟨nI (tcD (sl m 0) (rwA m i) (fun _ => nI 0) (wyW (sl m 0) (rwA m i) (fun _ => nI 0) c c) c 20 0 0 (fun _ => nI 0)), nI 0, fun mc ms P hmc hms hP => ?_, fun P hP => ?_⟩
      · unfold xw0_truths
        refine ⟨k0, fun u2 e2 => ⟨a 14, by rw [e2]; exact p15, 100, 1000, by omega, by omega, ?_⟩⟩
        have e2 : u2 = xsi u (a 0) 7 (nI 0) := e2
        subst e2
        refine x_waysC (P := fun r K13 u23 => ((9999 : Int32) < r → _) ∧ (¬ (9999 : Int32) < r → ∃ m39 w39, (100 + m39) ≤ mc ∧ (1000 + w39) ≤ ms ∧ xw0_want (a 0) (1 : Int32) (7 : Int32) K13 u23 m39 w39 (fun K39 u39 => _) (fun q39 K39 u39 => _))) hR1 p15 (fun w v e hne hq => ?_) (fun i' c' v e ex hi' em y1 y2 hq hv hf hWv => ?_)
        · rw [eO, hz] at e; omega
        · have e1 : i = i' := (nI_eq (by omega) (by omega)).mp ex
          have e2 : c = c' := (nI_eq (by omega) (by omega)).mp em
          subst e1 e2
          have hRv : Rep a K ow v (jm_s m 0 1 (nI 0)) := hR1.q QM.refl hq.x (by rw [hq.sta o0]; exact jm_same.symm)
          rw [esl, show rwA (jm_s m 0 1 (nI 0)) i = rwA m i from rfl] at hWv ⊢
          refine ⟨fun z => absurd z (by rw [li_9999, n_lt_f (by omega) (by omega)]; exact id), fun _ => ⟨0, 0, by omega, by omega, x_want1 (by decide) ⟨20 + 1, by omega, 11, 7200, by omega, by omega, ?_⟩⟩⟩
          have hW2 := fun k => wyW_le (h := sl (jm_s m 0 1 (nI 0)) 0) (A := rwA m i) (F := fun _ => nI 0) (many := c) c k
          refine x_trF (a := a) (m := jm_s m 0 1 (nI 0)) (A := rwA m i) (F := fun _ => nI 0) (W := wyW (sl m 0) (rwA m i) (fun _ => nI 0) c c) (many := c) hW h2 20 0 0 (fun _ => nI 0) 11 7200 K ow v _ (by omega) (by omega) (Nat.zero_le _) ⟨hRv, hv, hf, hWv, fun k hk => by omega⟩ (Or.inr (Or.inr ⟨Nat.le_refl _, Nat.le_refl _⟩)) (fun K2 ow2 v2 hX hR2 hC => ?_)
          rw [esl]
          exact hP K2 ow2 v2 ((XA.of hq.st0).trans hX.xa) hR2.to0.2 (hR2.2.1.2.2.2.1.trans jm_same)
      · unfold mw_truths
        refine m_wrongRow (least := 1) hTr (by omega) ?_
        rw [hz]
        simp (disch := omega) only [forall_eq, forall_eq', exists_eq_left, exists_eq_left', true_and, and_true, true_implies, false_implies, not_true_eq_false, not_false_eq_true, Prod.mk.injEq, Option.some.injEq, reduceCtorEq, and_self, implies_true, eq_self, Classical.not_not, and_false, false_and, ite_true, ite_false, reduceIte, bI_0, or_false, false_or, or_true, true_or, or_self, if_true, if_false, n_le_t, n_le_f, n_lt_t, n_lt_f, n_eq_t, n_eq_f, n_toInt, n_cl, n_vp, n_eqM, M_eqn, n_leM, n_ltM, M_len, M_ltn, M_add, n_sub, iM_toInt, x_lt_t, x_lt_f, x_le_t, x_le_f, lt_x_t, lt_x_f, le_x_t, le_x_f, x_eq_f, nI_add, pk_mul, bI_t, bI_f, Int32.toInt_toInt64, n_subI, x_add0, i_le_t, i_le_f, i_lt_t, i_lt_f, k_le_t, k_le_f, k_lt_t, k_lt_f, li_0, li_1, li_2, li_3, li_4, li_5, li_6, li_7, li_8, li_9, li_10, li_11, li_12, li_16, li_20, li_24, li_25, li_26, li_30, li_31, li_32, li_40, li_48, li_49, li_57, li_59, li_60, li_63, li_64, li_65, li_90, li_96, li_97, li_106, li_122, li_255, li_300, li_600, li_800, li_900, li_1850, li_2000, li_2010, li_2040, li_2801, li_3300, li_4161, li_9999, li_10163, li_16500, li_16800, li_17100, li_18350, li_18510, li_18540, li_65536, li_100000, li_999999, li_1000000, li_2147483647, im_1, im_8, ll_0, ll_1, ll_2, ll_3, ll_4, ll_6, ll_16, ll_20, ll_40, ll_63, ll_800, ll_9999, jm_same, jm_ob, jm_ok, jm_il, jm_li, jm_lsame, jm_lob, jm_lok, Nat.reduceAdd, Nat.reduceMul, Nat.zero_add, Nat.add_zero, Nat.mul_zero, Nat.zero_mul, e_mw_isSmall, e_mw_isDigit, e_mw_isDigit0, e_mw_isGreat, e_xs_isSmall, e_xs_isFigure, e_xs_isGreat, e_mw_isLetter, e_xs_isLetter, e_isBlank, e_xs_isBlank, e_isFrom, e_isIn]
        refine m_waysC hT hi h1 h2 (fun v g1 g2 g3 g4 g5 => ⟨fun _ => ?_, fun z => absurd (by rw [n_le_t (by omega) (by omega)]; trivial) z⟩)
        exact m_trE hT h1 h2 hW (fun b k hs => ⟨g1 b k (fun z => hs (by unfold scr; omega)) (fun z => hs (by unfold scr; omega)) (fun z => hs (by unfold scr; omega)), g2 b k⟩) g3 g4 g5 hP
  · refine ⟨iM, nI (rowO m x y 1), fun mc ms P hmc hms hP => ?_, fun P hP => ?_⟩
    · unfold xw0_truths
      refine ⟨k0, fun u2 e2 => ⟨a 14, by rw [e2]; exact p15, 100, 1000, by omega, by omega, ?_⟩⟩
      have e2 : u2 = xsi u (a 0) 7 (nI 0) := e2
      subst e2
      refine x_waysC (P := fun r K13 u23 => ((9999 : Int32) < r → _) ∧ (¬ (9999 : Int32) < r → _)) hR1 p15 (fun w v e hne hq => ?_) (fun i' c' v e ex hi' em y1 y2 hq hv hf hW => ?_)
      · rw [eO] at e
        subst e
        refine x_none k0 k12 ?_
        have hq2 := QX.st (x := nI (rowO m x y 1)) (hq.st0.s (b := a 12) (k := 6) (x := nI (rowO m x y 1)) (by rw [o12]; unfold xsc; omega))
        exact hP K ow _ (XA.of hq2) (hR.vv hq2).to0.2 xi_same
      · exact absurd e hz
    · unfold mw_truths
      refine m_wrongRow (least := 1) hTr (by omega) ?_
      have hlt := rowO_lt (m := m) (x := x) (many := y) (least := 1)
      generalize rowO m x y 1 = w at hz hlt hP
      try simp (disch := omega) only [mw_refuse, forall_eq, forall_eq', exists_eq_left, exists_eq_left', true_and, and_true, true_implies, false_implies, not_true_eq_false, not_false_eq_true, Prod.mk.injEq, Option.some.injEq, reduceCtorEq, and_self, implies_true, eq_self, Classical.not_not, and_false, false_and, ite_true, ite_false, reduceIte, bI_0, or_false, false_or, or_true, true_or, or_self, if_true, if_false, n_le_t, n_le_f, n_lt_t, n_lt_f, n_eq_t, n_eq_f, n_toInt, n_cl, n_vp, n_eqM, M_eqn, n_leM, n_ltM, M_len, M_ltn, M_add, n_sub, iM_toInt, x_lt_t, x_lt_f, x_le_t, x_le_f, lt_x_t, lt_x_f, le_x_t, le_x_f, x_eq_f, nI_add, pk_mul, bI_t, bI_f, Int32.toInt_toInt64, n_subI, x_add0, i_le_t, i_le_f, i_lt_t, i_lt_f, k_le_t, k_le_f, k_lt_t, k_lt_f, li_0, li_1, li_2, li_3, li_4, li_5, li_6, li_7, li_8, li_9, li_10, li_11, li_12, li_16, li_20, li_24, li_25, li_26, li_30, li_31, li_32, li_40, li_48, li_49, li_57, li_59, li_60, li_63, li_64, li_65, li_90, li_96, li_97, li_106, li_122, li_255, li_300, li_600, li_800, li_900, li_1850, li_2000, li_2010, li_2040, li_2801, li_3300, li_4161, li_9999, li_10163, li_16500, li_16800, li_17100, li_18350, li_18510, li_18540, li_65536, li_100000, li_999999, li_1000000, li_2147483647, im_1, im_8, ll_0, ll_1, ll_2, ll_3, ll_4, ll_6, ll_16, ll_20, ll_40, ll_63, ll_800, ll_9999, jm_same, jm_ob, jm_ok, jm_il, jm_li, jm_lsame, jm_lob, jm_lok, Nat.reduceAdd, Nat.reduceMul, Nat.zero_add, Nat.add_zero, Nat.mul_zero, Nat.zero_mul, e_mw_isSmall, e_mw_isDigit, e_mw_isDigit0, e_mw_isGreat, e_xs_isSmall, e_xs_isFigure, e_xs_isGreat, e_mw_isLetter, e_xs_isLetter, e_isBlank, e_xs_isBlank, e_isFrom, e_isIn]
      exact hP _ (QM.s QM.refl (by unfold scr; omega)) jm_same
end TRE
