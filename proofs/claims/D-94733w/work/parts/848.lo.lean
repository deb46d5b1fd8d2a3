/-! PLAIN LAW: lines of the reference, whole -/
set_option linter.unusedVariables false
theorem LB.room {s : LT} {k p : Nat} (h : LB s k p) (hk : k ≤ 151) (hp : p ≤ 1252) : tL s < 600 ∧ tT s < 1700 ∧ tH s < 500 := by
  obtain ⟨⟨B, h1, h2, h3⟩, h4, h5⟩ := h
  exact ⟨by omega, by omega, by omega⟩
theorem LR.sl {u v : MS} {s : LT} {kp ke k : Nat} (h : LR u v s kp ke) (hk : k < 3300) : jm_i v 1 k = sl u 0 k := by rw [h.tab, sl_of hk]
theorem LR.beg {u v : MS} {s : LT} {kp ke : Nat} (hR : LR u v s kp ke) : LR u (jm_s v 10 kp (nI (tL s - 1))) (lBeg kp s) (kp + 1) ke := by
  obtain ⟨r1, r2, r3, r4, r5, r6, r7, r8, r9, r10⟩ := hR
  refine ⟨fun b k q => ?_, r2, r3, r4, r5, fun k hk => ?_, fun k hk => ?_, fun k hk => ?_, fun k hk => ?_, fun k hk => ?_⟩
  · rw [jm_ob (fun z => q (by unfold lscr; omega))]; exact r1 b k q
  · rw [jm_ob (by omega)]; exact r6 k hk
  · rw [jm_ob (by omega)]; exact r7 k hk
  · rw [jm_ob (by omega)]; exact r8 k hk
  · have e : tB (lBeg kp s) k = up (tB s) kp (tL s - 1) k := rfl
    rw [e]
    by_cases hk2 : k = kp
    · subst hk2; rw [up_s, jm_same]
    · rw [up_n hk2, jm_ok hk2]; exact r9 k (by omega)
  · rw [jm_ob (by omega)]; exact r10 k hk
theorem LR.fin {u v : MS} {s : LT} {kp ke : Nat} (hR : LR u v s kp ke) : LR u (jm_s v 11 ke (nI (tL s - 1))) (lEnd ke s) kp (ke + 1) := by
  obtain ⟨r1, r2, r3, r4, r5, r6, r7, r8, r9, r10⟩ := hR
  refine ⟨fun b k q => ?_, r2, r3, r4, r5, fun k hk => ?_, fun k hk => ?_, fun k hk => ?_, fun k hk => ?_, fun k hk => ?_⟩
  · rw [jm_ob (fun z => q (by unfold lscr; omega))]; exact r1 b k q
  · rw [jm_ob (by omega)]; exact r6 k hk
  · rw [jm_ob (by omega)]; exact r7 k hk
  · rw [jm_ob (by omega)]; exact r8 k hk
  · rw [jm_ob (by omega)]; exact r9 k hk
  · have e : tE (lEnd ke s) k = up (tE s) ke (tL s - 1) k := rfl
    rw [e]
    by_cases hk2 : k = ke
    · subst hk2; rw [up_s, jm_same]
    · rw [up_n hk2, jm_ok hk2]; exact r10 k (by omega)
theorem LR.hyp {u v : MS} {s : LT} {kp ke : Nat} (hR : LR u v s kp ke) : LR u (jm_s v 0 29 (nI (tH s + 1))) (lHyp s) kp ke := by
  obtain ⟨r1, r2, r3, r4, r5, r6, r7, r8, r9, r10⟩ := hR
  refine ⟨fun b k q => ?_, r2, ?_, ?_, jm_same, fun k hk => ?_, fun k hk => ?_, fun k hk => ?_, fun k hk => ?_, fun k hk => ?_⟩
  · by_cases hb : b = 0
    · subst hb; rw [jm_ok (fun z => q (by unfold lscr; omega))]; exact r1 0 k q
    · rw [jm_ob hb]; exact r1 b k q
  · rw [jm_ok (by omega)]; exact r3
  · rw [jm_ok (by omega)]; exact r4
  · rw [jm_ob (by omega)]; exact r6 k hk
  · rw [jm_ob (by omega)]; exact r7 k hk
  · rw [jm_ob (by omega)]; exact r8 k hk
  · rw [jm_ob (by omega)]; exact r9 k hk
  · rw [jm_ob (by omega)]; exact r10 k hk
set_option maxHeartbeats 4000000 in
theorem m_rest {u : MS} {K24 : Int32 → MS → Prop} {P : MS → Prop} (hT : WT (sl u 0)) (hW : WWs (sl u 0)) {k N : Nat} (hk : k < hN (sl u 0) 9) (hN1 : hN (sl u 0) (1850 + k) + N ≤ hN (sl u 0) 8) : ∀ f d n s v, d + n = N → n < f → LR u v s (k + 1) k → LB s (k + 1) (hN (sl u 0) (1850 + k) + d) → 0 < tL s →
    (∀ v2, LR u v2 (lEnd k (lRest (sl u 0) f (hN (sl u 0) (1850 + k) + d) n s)) (k + 1) (k + 1) → K24 (nI (k + 1)) v2) → mw_laysLines_L94 K24 P (nI (hN (sl u 0) 4)) (nI k) (nI N) f (nI d) v
  | 0, d, n, s, v, hd, hf, hR, hB, h0, h => by omega
  | f + 1, d, n, s, v, hd, hf, hR, hB, h0, h => by
    obtain ⟨⟨g0, g0l⟩, ⟨g1, g1l⟩, ⟨g2, g2l⟩, ⟨g3, g3l⟩, ⟨g4, g4a, g4b⟩, ⟨g5, g5a, g5b⟩, gr⟩ := id hT
    obtain ⟨⟨w7, w7l⟩, wb, ⟨w8, w8l⟩, ⟨w9, w9l⟩, ⟨w11, w11l⟩, wc, ws, wp, wpp⟩ := id hW
    obtain ⟨pk, pk2⟩ := wp k hk
    unfold lRest at h
    unfold mw_laysLines_L94 mw_laysLines_L94_S
    by_cases c : n ≤ hN (sl u 0) 4
    · simp only [if_pos c] at h
      simp (disch := omega) only [forall_eq, forall_eq', exists_eq_left, exists_eq_left', true_and, and_true, true_implies, false_implies, not_true_eq_false, not_false_eq_true, Prod.mk.injEq, Option.some.injEq, reduceCtorEq, and_self, implies_true, eq_self, Classical.not_not, and_false, false_and, ite_true, ite_false, reduceIte, bI_0, or_false, false_or, or_true, true_or, or_self, if_true, if_false, n_le_t, n_le_f, n_lt_t, n_lt_f, n_eq_t, n_eq_f, n_toInt, n_cl, n_vp, n_eqM, M_eqn, n_leM, n_ltM, M_len, M_ltn, M_add, n_sub, iM_toInt, x_lt_t, x_lt_f, x_le_t, x_le_f, lt_x_t, lt_x_f, le_x_t, le_x_f, x_eq_f, nI_add, pk_mul, bI_t, bI_f, Int32.toInt_toInt64, n_subI, x_add0, i_le_t, i_le_f, i_lt_t, i_lt_f, k_le_t, k_le_f, k_lt_t, k_lt_f, li_0, li_1, li_2, li_3, li_4, li_5, li_6, li_7, li_8, li_9, li_10, li_11, li_12, li_16, li_20, li_24, li_25, li_26, li_30, li_31, li_32, li_40, li_48, li_49, li_57, li_59, li_60, li_63, li_64, li_65, li_90, li_96, li_97, li_106, li_122, li_255, li_300, li_600, li_800, li_900, li_1850, li_2000, li_2010, li_2040, li_2801, li_3300, li_4161, li_9999, li_10163, li_16500, li_16800, li_17100, li_18350, li_18510, li_18540, li_65536, li_100000, li_999999, li_1000000, li_2147483647, im_1, im_8, ll_0, ll_1, ll_2, ll_3, ll_4, ll_6, ll_16, ll_20, ll_40, ll_63, ll_800, ll_9999, jm_same, jm_ob, jm_ok, jm_il, jm_li, jm_lsame, jm_lob, jm_lok, Nat.reduceAdd, Nat.reduceMul, Nat.zero_add, Nat.add_zero, Nat.mul_zero, Nat.zero_mul, e_mw_isSmall, e_mw_isDigit, e_mw_isDigit0, e_mw_isGreat, e_xs_isSmall, e_xs_isFigure, e_xs_isGreat, e_mw_isLetter, e_xs_isLetter, e_isBlank, e_xs_isBlank, e_isFrom, e_isIn]
      refine m_cells (fun f j v => mw_laysLines_L212 K24 P (nI (hN (sl u 0) 4)) (nI k) (nI N) f (nI j) v) (sl u 0) (q := hN (sl u 0) (1850 + k) + d) d n s v hR hB h0 (by omega) (by omega) (fun f v2 hR2 => ?_) (fun f j v2 hj hR2 hB2 ih => ?_)
      · have hR3 := hR2
        obtain ⟨r1, r2, r3, r4, r5, r6, r7, r8, r9, r10⟩ := hR3
        have e : tL (lCells (sl u 0) (hN (sl u 0) (1850 + k) + d) n s) = tL s := (hB.cells n).2
        have rm := hB.room (by omega) (by omega)
        unfold mw_laysLines_L212 mw_laysLines_L212_S
        have q0 := h _ (LR.fin hR2)
        rw [e] at q0 r3
        simp (disch := omega) only [r3, forall_eq, forall_eq', exists_eq_left, exists_eq_left', true_and, and_true, true_implies, false_implies, not_true_eq_false, not_false_eq_true, Prod.mk.injEq, Option.some.injEq, reduceCtorEq, and_self, implies_true, eq_self, Classical.not_not, and_false, false_and, ite_true, ite_false, reduceIte, bI_0, or_false, false_or, or_true, true_or, or_self, if_true, if_false, n_le_t, n_le_f, n_lt_t, n_lt_f, n_eq_t, n_eq_f, n_toInt, n_cl, n_vp, n_eqM, M_eqn, n_leM, n_ltM, M_len, M_ltn, M_add, n_sub, iM_toInt, x_lt_t, x_lt_f, x_le_t, x_le_f, lt_x_t, lt_x_f, le_x_t, le_x_f, x_eq_f, nI_add, pk_mul, bI_t, bI_f, Int32.toInt_toInt64, n_subI, x_add0, i_le_t, i_le_f, i_lt_t, i_lt_f, k_le_t, k_le_f, k_lt_t, k_lt_f, li_0, li_1, li_2, li_3, li_4, li_5, li_6, li_7, li_8, li_9, li_10, li_11, li_12, li_16, li_20, li_24, li_25, li_26, li_30, li_31, li_32, li_40, li_48, li_49, li_57, li_59, li_60, li_63, li_64, li_65, li_90, li_96, li_97, li_106, li_122, li_255, li_300, li_600, li_800, li_900, li_1850, li_2000, li_2010, li_2040, li_2801, li_3300, li_4161, li_9999, li_10163, li_16500, li_16800, li_17100, li_18350, li_18510, li_18540, li_65536, li_100000, li_999999, li_1000000, li_2147483647, im_1, im_8, ll_0, ll_1, ll_2, ll_3, ll_4, ll_6, ll_16, ll_20, ll_40, ll_63, ll_800, ll_9999, jm_same, jm_ob, jm_ok, jm_il, jm_li, jm_lsame, jm_lob, jm_lok, Nat.reduceAdd, Nat.reduceMul, Nat.zero_add, Nat.add_zero, Nat.mul_zero, Nat.zero_mul, e_mw_isSmall, e_mw_isDigit, e_mw_isDigit0, e_mw_isGreat, e_xs_isSmall, e_xs_isFigure, e_xs_isGreat, e_mw_isLetter, e_xs_isLetter, e_isBlank, e_xs_isBlank, e_isFrom, e_isIn]
        exact q0
      · have e : tL (lCells (sl u 0) (hN (sl u 0) (1850 + k) + d) j s) = tL s := (hB.cells j).2
        have rm := hB2.room (by omega) (by omega)
        unfold mw_laysLines_L212 mw_laysLines_L212_S
        simp (disch := omega) only [hR2.sl, pk, forall_eq, forall_eq', exists_eq_left, exists_eq_left', true_and, and_true, true_implies, false_implies, not_true_eq_false, not_false_eq_true, Prod.mk.injEq, Option.some.injEq, reduceCtorEq, and_self, implies_true, eq_self, Classical.not_not, and_false, false_and, ite_true, ite_false, reduceIte, bI_0, or_false, false_or, or_true, true_or, or_self, if_true, if_false, n_le_t, n_le_f, n_lt_t, n_lt_f, n_eq_t, n_eq_f, n_toInt, n_cl, n_vp, n_eqM, M_eqn, n_leM, n_ltM, M_len, M_ltn, M_add, n_sub, iM_toInt, x_lt_t, x_lt_f, x_le_t, x_le_f, lt_x_t, lt_x_f, le_x_t, le_x_f, x_eq_f, nI_add, pk_mul, bI_t, bI_f, Int32.toInt_toInt64, n_subI, x_add0, i_le_t, i_le_f, i_lt_t, i_lt_f, k_le_t, k_le_f, k_lt_t, k_lt_f, li_0, li_1, li_2, li_3, li_4, li_5, li_6, li_7, li_8, li_9, li_10, li_11, li_12, li_16, li_20, li_24, li_25, li_26, li_30, li_31, li_32, li_40, li_48, li_49, li_57, li_59, li_60, li_63, li_64, li_65, li_90, li_96, li_97, li_106, li_122, li_255, li_300, li_600, li_800, li_900, li_1850, li_2000, li_2010, li_2040, li_2801, li_3300, li_4161, li_9999, li_10163, li_16500, li_16800, li_17100, li_18350, li_18510, li_18540, li_65536, li_100000, li_999999, li_1000000, li_2147483647, im_1, im_8, ll_0, ll_1, ll_2, ll_3, ll_4, ll_6, ll_16, ll_20, ll_40, ll_63, ll_800, ll_9999, jm_same, jm_ob, jm_ok, jm_il, jm_li, jm_lsame, jm_lob, jm_lok, Nat.reduceAdd, Nat.reduceMul, Nat.zero_add, Nat.add_zero, Nat.mul_zero, Nat.zero_mul, e_mw_isSmall, e_mw_isDigit, e_mw_isDigit0, e_mw_isGreat, e_xs_isSmall, e_xs_isFigure, e_xs_isGreat, e_mw_isLetter, e_xs_isLetter, e_isBlank, e_xs_isBlank, e_isFrom, e_isIn]
        rw [show 600 + hN (sl u 0) (1850 + k) + (d + j) = 600 + (hN (sl u 0) (1850 + k) + d + j) by omega]
        refine m_laysCell hR2 (by omega) (by omega) (by omega) hB2.2.2 (fun v3 hR3 => ?_)
        exact ih v3 hR3
    · simp only [if_neg c] at h
      have go : ∀ its, (3 ≤ its ∧ its ≤ hN (sl u 0) 4) → (∀ v2, LR u v2 (lCells (sl u 0) (hN (sl u 0) (1850 + k) + d) its s) (k + 1) k → LB (lCells (sl u 0) (hN (sl u 0) (1850 + k) + d) its s) (k + 1) (hN (sl u 0) (1850 + k) + d + its) → tL (lCells (sl u 0) (hN (sl u 0) (1850 + k) + d) its s) = tL s → ∀ f2, mw_laysLines_L123 K24 (mw_laysLines_L94 K24 P (nI (hN (sl u 0) 4)) (nI k) (nI N) f) P (nI (hN (sl u 0) 4)) (nI k) (nI N) (nI d) (nI its) (f2 + 1) (nI its) v2) → ∃ f2, mw_laysLines_L123 K24 (mw_laysLines_L94 K24 P (nI (hN (sl u 0) 4)) (nI k) (nI N) f) P (nI (hN (sl u 0) 4)) (nI k) (nI N) (nI d) (nI its) f2 (nI 0) v := by
        intro its hits hend
        refine m_cells (fun f2 j v => mw_laysLines_L123 K24 (mw_laysLines_L94 K24 P (nI (hN (sl u 0) 4)) (nI k) (nI N) f) P (nI (hN (sl u 0) 4)) (nI k) (nI N) (nI d) (nI its) f2 (nI j) v) (sl u 0) (q := hN (sl u 0) (1850 + k) + d) 0 its s v hR hB h0 (by omega) (by omega) (fun f2 v2 hR2 => ?_) (fun f2 j v2 hj hR2 hB2 ih => ?_)
        · rw [Nat.zero_add]
          exact hend v2 hR2 (hB.cells its).1 (hB.cells its).2 f2
        · have e : tL (lCells (sl u 0) (hN (sl u 0) (1850 + k) + d) j s) = tL s := (hB.cells j).2
          have rm := hB2.room (by omega) (by omega)
          unfold mw_laysLines_L123 mw_laysLines_L123_S
          simp (disch := omega) only [hR2.sl, pk, forall_eq, forall_eq', exists_eq_left, exists_eq_left', true_and, and_true, true_implies, false_implies, not_true_eq_false, not_false_eq_true, Prod.mk.injEq, Option.some.injEq, reduceCtorEq, and_self, implies_true, eq_self, Classical.not_not, and_false, false_and, ite_true, ite_false, reduceIte, bI_0, or_false, false_or, or_true, true_or, or_self, if_true, if_false, n_le_t, n_le_f, n_lt_t, n_lt_f, n_eq_t, n_eq_f, n_toInt, n_cl, n_vp, n_eqM, M_eqn, n_leM, n_ltM, M_len, M_ltn, M_add, n_sub, iM_toInt, x_lt_t, x_lt_f, x_le_t, x_le_f, lt_x_t, lt_x_f, le_x_t, le_x_f, x_eq_f, nI_add, pk_mul, bI_t, bI_f, Int32.toInt_toInt64, n_subI, x_add0, i_le_t, i_le_f, i_lt_t, i_lt_f, k_le_t, k_le_f, k_lt_t, k_lt_f, li_0, li_1, li_2, li_3, li_4, li_5, li_6, li_7, li_8, li_9, li_10, li_11, li_12, li_16, li_20, li_24, li_25, li_26, li_30, li_31, li_32, li_40, li_48, li_49, li_57, li_59, li_60, li_63, li_64, li_65, li_90, li_96, li_97, li_106, li_122, li_255, li_300, li_600, li_800, li_900, li_1850, li_2000, li_2010, li_2040, li_2801, li_3300, li_4161, li_9999, li_10163, li_16500, li_16800, li_17100, li_18350, li_18510, li_18540, li_65536, li_100000, li_999999, li_1000000, li_2147483647, im_1, im_8, ll_0, ll_1, ll_2, ll_3, ll_4, ll_6, ll_16, ll_20, ll_40, ll_63, ll_800, ll_9999, jm_same, jm_ob, jm_ok, jm_il, jm_li, jm_lsame, jm_lob, jm_lok, Nat.reduceAdd, Nat.reduceMul, Nat.zero_add, Nat.add_zero, Nat.mul_zero, Nat.zero_mul, e_mw_isSmall, e_mw_isDigit, e_mw_isDigit0, e_mw_isGreat, e_xs_isSmall, e_xs_isFigure, e_xs_isGreat, e_mw_isLetter, e_xs_isLetter, e_isBlank, e_xs_isBlank, e_isFrom, e_isIn]
          rw [show 600 + hN (sl u 0) (1850 + k) + d + j = 600 + (hN (sl u 0) (1850 + k) + d + j) by omega]
          refine m_laysCell hR2 (by omega) (by omega) (by omega) hB2.2.2 (fun v3 hR3 => ?_)
          have := ih v3 hR3
          rw [Nat.zero_add] at this
          exact this
      have hBx := hB.1
      by_cases c3 : sl u 0 3 = nI 0
      · simp only [if_pos c3] at h
        simp (disch := omega) only [hR.sl, c3, forall_eq, forall_eq', exists_eq_left, exists_eq_left', true_and, and_true, true_implies, false_implies, not_true_eq_false, not_false_eq_true, Prod.mk.injEq, Option.some.injEq, reduceCtorEq, and_self, implies_true, eq_self, Classical.not_not, and_false, false_and, ite_true, ite_false, reduceIte, bI_0, or_false, false_or, or_true, true_or, or_self, if_true, if_false, n_le_t, n_le_f, n_lt_t, n_lt_f, n_eq_t, n_eq_f, n_toInt, n_cl, n_vp, n_eqM, M_eqn, n_leM, n_ltM, M_len, M_ltn, M_add, n_sub, iM_toInt, x_lt_t, x_lt_f, x_le_t, x_le_f, lt_x_t, lt_x_f, le_x_t, le_x_f, x_eq_f, nI_add, pk_mul, bI_t, bI_f, Int32.toInt_toInt64, n_subI, x_add0, i_le_t, i_le_f, i_lt_t, i_lt_f, k_le_t, k_le_f, k_lt_t, k_lt_f, li_0, li_1, li_2, li_3, li_4, li_5, li_6, li_7, li_8, li_9, li_10, li_11, li_12, li_16, li_20, li_24, li_25, li_26, li_30, li_31, li_32, li_40, li_48, li_49, li_57, li_59, li_60, li_63, li_64, li_65, li_90, li_96, li_97, li_106, li_122, li_255, li_300, li_600, li_800, li_900, li_1850, li_2000, li_2010, li_2040, li_2801, li_3300, li_4161, li_9999, li_10163, li_16500, li_16800, li_17100, li_18350, li_18510, li_18540, li_65536, li_100000, li_999999, li_1000000, li_2147483647, im_1, im_8, ll_0, ll_1, ll_2, ll_3, ll_4, ll_6, ll_16, ll_20, ll_40, ll_63, ll_800, ll_9999, jm_same, jm_ob, jm_ok, jm_il, jm_li, jm_lsame, jm_lob, jm_lok, Nat.reduceAdd, Nat.reduceMul, Nat.zero_add, Nat.add_zero, Nat.mul_zero, Nat.zero_mul, e_mw_isSmall, e_mw_isDigit, e_mw_isDigit0, e_mw_isGreat, e_xs_isSmall, e_xs_isFigure, e_xs_isGreat, e_mw_isLetter, e_xs_isLetter, e_isBlank, e_xs_isBlank, e_isFrom, e_isIn]
        refine go (hN (sl u 0) 4) ⟨by omega, by omega⟩ (fun v2 hR2 hB2 e2 f2 => ?_)
        have rm := hB2.room (by omega) (by omega)
        unfold mw_laysLines_L123 mw_laysLines_L123_S
        simp (disch := omega) only [hR2.sl, c3, forall_eq, forall_eq', exists_eq_left, exists_eq_left', true_and, and_true, true_implies, false_implies, not_true_eq_false, not_false_eq_true, Prod.mk.injEq, Option.some.injEq, reduceCtorEq, and_self, implies_true, eq_self, Classical.not_not, and_false, false_and, ite_true, ite_false, reduceIte, bI_0, or_false, false_or, or_true, true_or, or_self, if_true, if_false, n_le_t, n_le_f, n_lt_t, n_lt_f, n_eq_t, n_eq_f, n_toInt, n_cl, n_vp, n_eqM, M_eqn, n_leM, n_ltM, M_len, M_ltn, M_add, n_sub, iM_toInt, x_lt_t, x_lt_f, x_le_t, x_le_f, lt_x_t, lt_x_f, le_x_t, le_x_f, x_eq_f, nI_add, pk_mul, bI_t, bI_f, Int32.toInt_toInt64, n_subI, x_add0, i_le_t, i_le_f, i_lt_t, i_lt_f, k_le_t, k_le_f, k_lt_t, k_lt_f, li_0, li_1, li_2, li_3, li_4, li_5, li_6, li_7, li_8, li_9, li_10, li_11, li_12, li_16, li_20, li_24, li_25, li_26, li_30, li_31, li_32, li_40, li_48, li_49, li_57, li_59, li_60, li_63, li_64, li_65, li_90, li_96, li_97, li_106, li_122, li_255, li_300, li_600, li_800, li_900, li_1850, li_2000, li_2010, li_2040, li_2801, li_3300, li_4161, li_9999, li_10163, li_16500, li_16800, li_17100, li_18350, li_18510, li_18540, li_65536, li_100000, li_999999, li_1000000, li_2147483647, im_1, im_8, ll_0, ll_1, ll_2, ll_3, ll_4, ll_6, ll_16, ll_20, ll_40, ll_63, ll_800, ll_9999, jm_same, jm_ob, jm_ok, jm_il, jm_li, jm_lsame, jm_lob, jm_lok, Nat.reduceAdd, Nat.reduceMul, Nat.zero_add, Nat.add_zero, Nat.mul_zero, Nat.zero_mul, e_mw_isSmall, e_mw_isDigit, e_mw_isDigit0, e_mw_isGreat, e_xs_isSmall, e_xs_isFigure, e_xs_isGreat, e_mw_isLetter, e_xs_isLetter, e_isBlank, e_xs_isBlank, e_isFrom, e_isIn]
        refine m_newLine hR2 (by omega) (by omega) hB2.2.2 (fun v3 hR3 => ?_)
        have hB3 := (hB2.brk (v := nI 0) (by omega) (by obtain ⟨B, z1, z2, z3⟩ := hBx; exact ⟨B, z1, by omega, by
          have ht : ∀ m, tH (lCells (sl u 0) (hN (sl u 0) (1850 + k) + d) m s) = tH s := fun m => by
            induction m with
            | zero => rfl
            | succ m ih => exact ih
          rw [ht]; exact z3⟩)).1
        refine m_rest hT hW hk hN1 f (d + hN (sl u 0) 4) (n - hN (sl u 0) 4) _ v3 (by omega) (by omega) hR3 (by rw [← Nat.add_assoc]; exact hB3) (by show 0 < tL _ + 1; omega) ?_
        rw [← Nat.add_assoc]; exact h
      · simp only [if_neg c3] at h
        simp (disch := omega) only [hR.sl, c3, forall_eq, forall_eq', exists_eq_left, exists_eq_left', true_and, and_true, true_implies, false_implies, not_true_eq_false, not_false_eq_true, Prod.mk.injEq, Option.some.injEq, reduceCtorEq, and_self, implies_true, eq_self, Classical.not_not, and_false, false_and, ite_true, ite_false, reduceIte, bI_0, or_false, false_or, or_true, true_or, or_self, if_true, if_false, n_le_t, n_le_f, n_lt_t, n_lt_f, n_eq_t, n_eq_f, n_toInt, n_cl, n_vp, n_eqM, M_eqn, n_leM, n_ltM, M_len, M_ltn, M_add, n_sub, iM_toInt, x_lt_t, x_lt_f, x_le_t, x_le_f, lt_x_t, lt_x_f, le_x_t, le_x_f, x_eq_f, nI_add, pk_mul, bI_t, bI_f, Int32.toInt_toInt64, n_subI, x_add0, i_le_t, i_le_f, i_lt_t, i_lt_f, k_le_t, k_le_f, k_lt_t, k_lt_f, li_0, li_1, li_2, li_3, li_4, li_5, li_6, li_7, li_8, li_9, li_10, li_11, li_12, li_16, li_20, li_24, li_25, li_26, li_30, li_31, li_32, li_40, li_48, li_49, li_57, li_59, li_60, li_63, li_64, li_65, li_90, li_96, li_97, li_106, li_122, li_255, li_300, li_600, li_800, li_900, li_1850, li_2000, li_2010, li_2040, li_2801, li_3300, li_4161, li_9999, li_10163, li_16500, li_16800, li_17100, li_18350, li_18510, li_18540, li_65536, li_100000, li_999999, li_1000000, li_2147483647, im_1, im_8, ll_0, ll_1, ll_2, ll_3, ll_4, ll_6, ll_16, ll_20, ll_40, ll_63, ll_800, ll_9999, jm_same, jm_ob, jm_ok, jm_il, jm_li, jm_lsame, jm_lob, jm_lok, Nat.reduceAdd, Nat.reduceMul, Nat.zero_add, Nat.add_zero, Nat.mul_zero, Nat.zero_mul, e_mw_isSmall, e_mw_isDigit, e_mw_isDigit0, e_mw_isGreat, e_xs_isSmall, e_xs_isFigure, e_xs_isGreat, e_mw_isLetter, e_xs_isLetter, e_isBlank, e_xs_isBlank, e_isFrom, e_isIn]
        refine go (hN (sl u 0) 4 - 1) ⟨by omega, by omega⟩ (fun v2 hR2 hB2 e2 f2 => ?_)
        have rm := hB2.room (by omega) (by omega)
        unfold mw_laysLines_L123 mw_laysLines_L123_S
        simp (disch := omega) only [hR2.sl, c3, forall_eq, forall_eq', exists_eq_left, exists_eq_left', true_and, and_true, true_implies, false_implies, not_true_eq_false, not_false_eq_true, Prod.mk.injEq, Option.some.injEq, reduceCtorEq, and_self, implies_true, eq_self, Classical.not_not, and_false, false_and, ite_true, ite_false, reduceIte, bI_0, or_false, false_or, or_true, true_or, or_self, if_true, if_false, n_le_t, n_le_f, n_lt_t, n_lt_f, n_eq_t, n_eq_f, n_toInt, n_cl, n_vp, n_eqM, M_eqn, n_leM, n_ltM, M_len, M_ltn, M_add, n_sub, iM_toInt, x_lt_t, x_lt_f, x_le_t, x_le_f, lt_x_t, lt_x_f, le_x_t, le_x_f, x_eq_f, nI_add, pk_mul, bI_t, bI_f, Int32.toInt_toInt64, n_subI, x_add0, i_le_t, i_le_f, i_lt_t, i_lt_f, k_le_t, k_le_f, k_lt_t, k_lt_f, li_0, li_1, li_2, li_3, li_4, li_5, li_6, li_7, li_8, li_9, li_10, li_11, li_12, li_16, li_20, li_24, li_25, li_26, li_30, li_31, li_32, li_40, li_48, li_49, li_57, li_59, li_60, li_63, li_64, li_65, li_90, li_96, li_97, li_106, li_122, li_255, li_300, li_600, li_800, li_900, li_1850, li_2000, li_2010, li_2040, li_2801, li_3300, li_4161, li_9999, li_10163, li_16500, li_16800, li_17100, li_18350, li_18510, li_18540, li_65536, li_100000, li_999999, li_1000000, li_2147483647, im_1, im_8, ll_0, ll_1, ll_2, ll_3, ll_4, ll_6, ll_16, ll_20, ll_40, ll_63, ll_800, ll_9999, jm_same, jm_ob, jm_ok, jm_il, jm_li, jm_lsame, jm_lob, jm_lok, Nat.reduceAdd, Nat.reduceMul, Nat.zero_add, Nat.add_zero, Nat.mul_zero, Nat.zero_mul, e_mw_isSmall, e_mw_isDigit, e_mw_isDigit0, e_mw_isGreat, e_xs_isSmall, e_xs_isFigure, e_xs_isGreat, e_mw_isLetter, e_xs_isLetter, e_isBlank, e_xs_isBlank, e_isFrom, e_isIn]
        refine m_laysCell hR2 (by omega) (by omega) (by omega) hB2.2.2 (fun v3 hR3 => ?_)
        have r5 := hR3.2.2.2.2.1
        have hR4 := hR3.hyp
        have e5 : tH (lCell (sl u 0 3) (lCells (sl u 0) (hN (sl u 0) (1850 + k) + d) (hN (sl u 0) 4 - 1) s)) = tH (lCells (sl u 0) (hN (sl u 0) (1850 + k) + d) (hN (sl u 0) 4 - 1) s) := rfl
        simp (disch := omega) only [r5, forall_eq, forall_eq', exists_eq_left, exists_eq_left', true_and, and_true, true_implies, false_implies, not_true_eq_false, not_false_eq_true, Prod.mk.injEq, Option.some.injEq, reduceCtorEq, and_self, implies_true, eq_self, Classical.not_not, and_false, false_and, ite_true, ite_false, reduceIte, bI_0, or_false, false_or, or_true, true_or, or_self, if_true, if_false, n_le_t, n_le_f, n_lt_t, n_lt_f, n_eq_t, n_eq_f, n_toInt, n_cl, n_vp, n_eqM, M_eqn, n_leM, n_ltM, M_len, M_ltn, M_add, n_sub, iM_toInt, x_lt_t, x_lt_f, x_le_t, x_le_f, lt_x_t, lt_x_f, le_x_t, le_x_f, x_eq_f, nI_add, pk_mul, bI_t, bI_f, Int32.toInt_toInt64, n_subI, x_add0, i_le_t, i_le_f, i_lt_t, i_lt_f, k_le_t, k_le_f, k_lt_t, k_lt_f, li_0, li_1, li_2, li_3, li_4, li_5, li_6, li_7, li_8, li_9, li_10, li_11, li_12, li_16, li_20, li_24, li_25, li_26, li_30, li_31, li_32, li_40, li_48, li_49, li_57, li_59, li_60, li_63, li_64, li_65, li_90, li_96, li_97, li_106, li_122, li_255, li_300, li_600, li_800, li_900, li_1850, li_2000, li_2010, li_2040, li_2801, li_3300, li_4161, li_9999, li_10163, li_16500, li_16800, li_17100, li_18350, li_18510, li_18540, li_65536, li_100000, li_999999, li_1000000, li_2147483647, im_1, im_8, ll_0, ll_1, ll_2, ll_3, ll_4, ll_6, ll_16, ll_20, ll_40, ll_63, ll_800, ll_9999, jm_same, jm_ob, jm_ok, jm_il, jm_li, jm_lsame, jm_lob, jm_lok, Nat.reduceAdd, Nat.reduceMul, Nat.zero_add, Nat.add_zero, Nat.mul_zero, Nat.zero_mul, e_mw_isSmall, e_mw_isDigit, e_mw_isDigit0, e_mw_isGreat, e_xs_isSmall, e_xs_isFigure, e_xs_isGreat, e_mw_isLetter, e_xs_isLetter, e_isBlank, e_xs_isBlank, e_isFrom, e_isIn]
        refine m_newLine hR4 (by show tL (lCells _ _ _ _) < 1300; omega) (by show tT (lCells _ _ _ _) + 1 < 100000; omega) (fun i hi => by have := hB2.2.2 i hi; show tF (lCells _ _ _ _) i ≤ tT (lCells _ _ _ _) + 1; omega) (fun v4 hR5 => ?_)
        have hB3 := (hB2.brk (v := sl u 0 3) (by omega) (by obtain ⟨B, z1, z2, z3⟩ := hBx; exact ⟨B, z1, by omega, by
          have ht : ∀ m, tH (lCells (sl u 0) (hN (sl u 0) (1850 + k) + d) m s) = tH s := fun m => by
            induction m with
            | zero => rfl
            | succ m ih => exact ih
          rw [ht]; exact z3⟩)).2
        refine m_rest hT hW hk hN1 f (d + (hN (sl u 0) 4 - 1)) (n - (hN (sl u 0) 4 - 1)) _ v4 (by omega) (by omega) hR5 (by rw [← Nat.add_assoc]; exact hB3) (by show 0 < tL _ + 1; omega) ?_
        rw [← Nat.add_assoc]; exact h
theorem lCells_L {h : Nat → Int32} {q : Nat} {s : LT} : ∀ m, tL (lCells h q m s) = tL s ∧ tH (lCells h q m s) = tH s
  | 0 => ⟨rfl, rfl⟩
  | m + 1 => lCells_L m
theorem LB.mono {s : LT} {k p k2 p2 : Nat} (h : LB s k p) (hk : k ≤ k2) (hp : p ≤ p2) : LB s k2 p2 := by
  obtain ⟨⟨B, h1, h2, h3⟩, h4, h5⟩ := h
  exact ⟨⟨B, by omega, by omega, h3⟩, by omega, h5⟩
theorem LB.rest {h : Nat → Int32} {k : Nat} (hm : 4 ≤ hN h 4) : ∀ f p n s, n < f → LB s k p → 0 < tL s → LB (lRest h f p n s) k (p + n) ∧ 0 < tL (lRest h f p n s)
  | 0, p, n, s, hf, hB, h0 => by omega
  | f + 1, p, n, s, hf, hB, h0 => by
    unfold lRest
    by_cases c : n ≤ hN h 4
    · rw [if_pos c]
      exact ⟨(hB.cells n).1, by rw [(lCells_L n).1]; exact h0⟩
    · rw [if_neg c]
      have hBx := hB.1
      by_cases c3 : h 3 = nI 0
      · rw [if_pos c3]
        have b2 := ((hB.cells (h := h) (q := p) (hN h 4)).1.brk (v := nI 0) (by omega) (by rw [(lCells_L _).1, (lCells_L _).2]; exact hBx)).1
        obtain ⟨k1, k2⟩ := LB.rest hm f (p + hN h 4) (n - hN h 4) _ (by omega) b2 (by show 0 < tL _ + 1; omega)
        rw [show p + hN h 4 + (n - hN h 4) = p + n by omega] at k1
        exact ⟨k1, k2⟩
      · rw [if_neg c3]
        have b2 := ((hB.cells (h := h) (q := p) (hN h 4 - 1)).1.brk (v := h 3) (by omega) (by rw [(lCells_L _).1, (lCells_L _).2]; exact hBx)).2
        obtain ⟨k1, k2⟩ := LB.rest hm f (p + (hN h 4 - 1)) (n - (hN h 4 - 1)) _ (by omega) b2 (by show 0 < tL _ + 1; omega)
        rw [show p + (hN h 4 - 1) + (n - (hN h 4 - 1)) = p + n by omega] at k1
        exact ⟨k1, k2⟩
/-- between two pieces -/
def TB (h : Nat → Int32) (k : Nat) (s : LT) : Prop := (k = 0 ∧ s = (0, 0, 0, fun _ => 0, fun _ => 0, fun _ => 0, fun _ => 0)) ∨ (0 < k ∧ 0 < tL s ∧ LB s k (eP h k - 1))
theorem pM_e {h : Nat → Int32} (hW : WWs h) {k : Nat} (hk : k < hN h 9) : 1 ≤ pM h k ∧ hN h (1850 + k) + pM h k + 1 = eP h (k + 1) ∧ hN h (1850 + k) + pM h k ≤ hN h 8 := by
  obtain ⟨⟨w7, w7l⟩, wb, ⟨w8, w8l⟩, ⟨w9, w9l⟩, ⟨w11, w11l⟩, wc, ws, wp, wpp⟩ := hW
  obtain ⟨z1, z2⟩ := wp k hk
  unfold pM eP
  by_cases c : k + 1 < hN h 9
  · rw [if_pos c, if_pos c]
    have := wpp k c
    obtain ⟨z3, z4⟩ := wp (k + 1) c
    omega
  · rw [if_neg c, if_neg c]; omega
theorem m_pieceMany {h : Nat → Int32} {v : MS} {k : Nat} {P : Int32 → MS → Prop} (hs : ∀ j, j < 3300 → jm_i v 1 j = h j) (hW : WWs h) (hk : k < hN h 9) (hP : P (nI (pM h k)) v) : mw_pieceMany (nI k) v P := by
  obtain ⟨⟨w7, w7l⟩, wb, ⟨w8, w8l⟩, ⟨w9, w9l⟩, ⟨w11, w11l⟩, wc, ws, wp, wpp⟩ := hW
  obtain ⟨z1, z2⟩ := wp k hk
  unfold mw_pieceMany
  unfold pM at hP
  by_cases c : k + 1 < hN h 9
  · rw [if_pos c] at hP
    have := wpp k c
    obtain ⟨z3, z4⟩ := wp (k + 1) c
    rw [show 1850 + (k + 1) = 1850 + k + 1 by omega] at z3 hP this z4
    simp (disch := omega) only [hs, w9, z1, z3, forall_eq, forall_eq', exists_eq_left, exists_eq_left', true_and, and_true, true_implies, false_implies, not_true_eq_false, not_false_eq_true, Prod.mk.injEq, Option.some.injEq, reduceCtorEq, and_self, implies_true, eq_self, Classical.not_not, and_false, false_and, ite_true, ite_false, reduceIte, bI_0, or_false, false_or, or_true, true_or, or_self, if_true, if_false, n_le_t, n_le_f, n_lt_t, n_lt_f, n_eq_t, n_eq_f, n_toInt, n_cl, n_vp, n_eqM, M_eqn, n_leM, n_ltM, M_len, M_ltn, M_add, n_sub, iM_toInt, x_lt_t, x_lt_f, x_le_t, x_le_f, lt_x_t, lt_x_f, le_x_t, le_x_f, x_eq_f, nI_add, pk_mul, bI_t, bI_f, Int32.toInt_toInt64, n_subI, x_add0, i_le_t, i_le_f, i_lt_t, i_lt_f, k_le_t, k_le_f, k_lt_t, k_lt_f, li_0, li_1, li_2, li_3, li_4, li_5, li_6, li_7, li_8, li_9, li_10, li_11, li_12, li_16, li_20, li_24, li_25, li_26, li_30, li_31, li_32, li_40, li_48, li_49, li_57, li_59, li_60, li_63, li_64, li_65, li_90, li_96, li_97, li_106, li_122, li_255, li_300, li_600, li_800, li_900, li_1850, li_2000, li_2010, li_2040, li_2801, li_3300, li_4161, li_9999, li_10163, li_16500, li_16800, li_17100, li_18350, li_18510, li_18540, li_65536, li_100000, li_999999, li_1000000, li_2147483647, im_1, im_8, ll_0, ll_1, ll_2, ll_3, ll_4, ll_6, ll_16, ll_20, ll_40, ll_63, ll_800, ll_9999, jm_same, jm_ob, jm_ok, jm_il, jm_li, jm_lsame, jm_lob, jm_lok, Nat.reduceAdd, Nat.reduceMul, Nat.zero_add, Nat.add_zero, Nat.mul_zero, Nat.zero_mul, e_mw_isSmall, e_mw_isDigit, e_mw_isDigit0, e_mw_isGreat, e_xs_isSmall, e_xs_isFigure, e_xs_isGreat, e_mw_isLetter, e_xs_isLetter, e_isBlank, e_xs_isBlank, e_isFrom, e_isIn]
    exact hP
  · rw [if_neg c] at hP
    simp (disch := omega) only [hs, w9, w8, z1, forall_eq, forall_eq', exists_eq_left, exists_eq_left', true_and, and_true, true_implies, false_implies, not_true_eq_false, not_false_eq_true, Prod.mk.injEq, Option.some.injEq, reduceCtorEq, and_self, implies_true, eq_self, Classical.not_not, and_false, false_and, ite_true, ite_false, reduceIte, bI_0, or_false, false_or, or_true, true_or, or_self, if_true, if_false, n_le_t, n_le_f, n_lt_t, n_lt_f, n_eq_t, n_eq_f, n_toInt, n_cl, n_vp, n_eqM, M_eqn, n_leM, n_ltM, M_len, M_ltn, M_add, n_sub, iM_toInt, x_lt_t, x_lt_f, x_le_t, x_le_f, lt_x_t, lt_x_f, le_x_t, le_x_f, x_eq_f, nI_add, pk_mul, bI_t, bI_f, Int32.toInt_toInt64, n_subI, x_add0, i_le_t, i_le_f, i_lt_t, i_lt_f, k_le_t, k_le_f, k_lt_t, k_lt_f, li_0, li_1, li_2, li_3, li_4, li_5, li_6, li_7, li_8, li_9, li_10, li_11, li_12, li_16, li_20, li_24, li_25, li_26, li_30, li_31, li_32, li_40, li_48, li_49, li_57, li_59, li_60, li_63, li_64, li_65, li_90, li_96, li_97, li_106, li_122, li_255, li_300, li_600, li_800, li_900, li_1850, li_2000, li_2010, li_2040, li_2801, li_3300, li_4161, li_9999, li_10163, li_16500, li_16800, li_17100, li_18350, li_18510, li_18540, li_65536, li_100000, li_999999, li_1000000, li_2147483647, im_1, im_8, ll_0, ll_1, ll_2, ll_3, ll_4, ll_6, ll_16, ll_20, ll_40, ll_63, ll_800, ll_9999, jm_same, jm_ob, jm_ok, jm_il, jm_li, jm_lsame, jm_lob, jm_lok, Nat.reduceAdd, Nat.reduceMul, Nat.zero_add, Nat.add_zero, Nat.mul_zero, Nat.zero_mul, e_mw_isSmall, e_mw_isDigit, e_mw_isDigit0, e_mw_isGreat, e_xs_isSmall, e_xs_isFigure, e_xs_isGreat, e_mw_isLetter, e_xs_isLetter, e_isBlank, e_xs_isBlank, e_isFrom, e_isIn]
    exact hP
/-- the spec's step, before its cells -/
def lHead (h : Nat → Int32) (k : Nat) (s : LT) : LT := if tL s = 0 ∨ hN h 4 < tM s (tL s - 1) + 1 + pM h k then lNew s else lCell (nI 0) s
theorem TB.head {h : Nat → Int32} (hW : WWs h) {k : Nat} (hk : k < hN h 9) {s : LT} (hB : TB h k s) : LB (lHead h k s) (k + 1) (hN h (1850 + k)) ∧ 0 < tL (lHead h k s) := by
  unfold lHead
  rcases hB with ⟨h0, hs⟩ | ⟨h0, h1, h2⟩
  · subst h0
    rw [if_pos (Or.inl (by rw [hs]; rfl))]
    subst hs
    refine ⟨?_, by decide⟩
    have : LB (0, 0, 0, fun _ => 0, fun _ => 0, fun _ => 0, fun _ => 0) 0 0 := ⟨⟨0, by omega, by decide, by decide⟩, by decide, fun i hi => absurd hi (by unfold tL; omega)⟩
    exact this.new.mono (by omega) (by omega)
  · have e : eP h k = hN h (1850 + k) := by unfold eP; rw [if_pos hk]
    have ep : 1 ≤ eP h k := by
      obtain ⟨j, rfl⟩ : ∃ j, k = j + 1 := ⟨k - 1, by omega⟩
      have := (pM_e hW (show j < hN h 9 by omega)).2.1
      omega
    by_cases c : tL s = 0 ∨ hN h 4 < tM s (tL s - 1) + 1 + pM h k
    · rw [if_pos c]
      exact ⟨h2.new.mono (by omega) (by omega), by show 0 < tL s + 1; omega⟩
    · rw [if_neg c]
      exact ⟨h2.cell.mono (by omega) (by omega), h1⟩
theorem TB.step {h : Nat → Int32} (hT : 4 ≤ hN h 4) (hW : WWs h) {k : Nat} (hk : k < hN h 9) {s : LT} (hB : TB h k s) : TB h (k + 1) (lPiece h k s) := by
  obtain ⟨h1, h2⟩ := hB.head hW hk
  obtain ⟨h3, h4⟩ := LB.rest (h := h) (k := k + 1) hT (pM h k + 1) (hN h (1850 + k)) (pM h k) (lBeg k (lHead h k s)) (by omega) h1.beg h2
  have e := (pM_e hW hk).2.1
  refine Or.inr ⟨by omega, h4, ?_⟩
  rw [show eP h (k + 1) - 1 = hN h (1850 + k) + pM h k by omega]
  exact h3.fin
theorem TB.all {h : Nat → Int32} (hT : 4 ≤ hN h 4) (hW : WWs h) : ∀ k, k ≤ hN h 9 → TB h k (lAll h k)
  | 0, _ => Or.inl ⟨rfl, rfl⟩
  | k + 1, hk => (TB.all hT hW k (by omega)).step hT hW (by omega)
set_option maxHeartbeats 4000000 in
theorem m_laysLines {u : MS} {P : MS → Prop} (hT : WT (sl u 0)) (hW : WWs (sl u 0)) (h : ∀ v, LR u v (LSh (sl u 0)) (hN (sl u 0) 9) (hN (sl u 0) 9) → P v) : mw_laysLines u P := by
  obtain ⟨⟨g0, g0l⟩, ⟨g1, g1l⟩, ⟨g2, g2l⟩, ⟨g3, g3l⟩, ⟨g4, g4a, g4b⟩, ⟨g5, g5a, g5b⟩, gr⟩ := id hT
  obtain ⟨⟨w7, w7l⟩, wb, ⟨w8, w8l⟩, ⟨w9, w9l⟩, ⟨w11, w11l⟩, wc, ws, wp, wpp⟩ := id hW
  unfold mw_laysLines
  simp (disch := omega) only [sl_of (m := u), g4, forall_eq, forall_eq', exists_eq_left, exists_eq_left', true_and, and_true, true_implies, false_implies, not_true_eq_false, not_false_eq_true, Prod.mk.injEq, Option.some.injEq, reduceCtorEq, and_self, implies_true, eq_self, Classical.not_not, and_false, false_and, ite_true, ite_false, reduceIte, bI_0, or_false, false_or, or_true, true_or, or_self, if_true, if_false, n_le_t, n_le_f, n_lt_t, n_lt_f, n_eq_t, n_eq_f, n_toInt, n_cl, n_vp, n_eqM, M_eqn, n_leM, n_ltM, M_len, M_ltn, M_add, n_sub, iM_toInt, x_lt_t, x_lt_f, x_le_t, x_le_f, lt_x_t, lt_x_f, le_x_t, le_x_f, x_eq_f, nI_add, pk_mul, bI_t, bI_f, Int32.toInt_toInt64, n_subI, x_add0, i_le_t, i_le_f, i_lt_t, i_lt_f, k_le_t, k_le_f, k_lt_t, k_lt_f, li_0, li_1, li_2, li_3, li_4, li_5, li_6, li_7, li_8, li_9, li_10, li_11, li_12, li_16, li_20, li_24, li_25, li_26, li_30, li_31, li_32, li_40, li_48, li_49, li_57, li_59, li_60, li_63, li_64, li_65, li_90, li_96, li_97, li_106, li_122, li_255, li_300, li_600, li_800, li_900, li_1850, li_2000, li_2010, li_2040, li_2801, li_3300, li_4161, li_9999, li_10163, li_16500, li_16800, li_17100, li_18350, li_18510, li_18540, li_65536, li_100000, li_999999, li_1000000, li_2147483647, im_1, im_8, ll_0, ll_1, ll_2, ll_3, ll_4, ll_6, ll_16, ll_20, ll_40, ll_63, ll_800, ll_9999, jm_same, jm_ob, jm_ok, jm_il, jm_li, jm_lsame, jm_lob, jm_lok, Nat.reduceAdd, Nat.reduceMul, Nat.zero_add, Nat.add_zero, Nat.mul_zero, Nat.zero_mul, e_mw_isSmall, e_mw_isDigit, e_mw_isDigit0, e_mw_isGreat, e_xs_isSmall, e_xs_isFigure, e_xs_isGreat, e_mw_isLetter, e_xs_isLetter, e_isBlank, e_xs_isBlank, e_isFrom, e_isIn]
  refine lp_st (fun n k v => mw_laysLines_L24 P (nI (hN (sl u 0) 4)) n (nI k) v) (fun k v => LR u v (lAll (sl u 0) k) k k) (hN (sl u 0) 9) 0 _ (Nat.zero_le _) ?_ (fun n v hR => ?_) (fun n k v hk hR ih => ?_)
  · refine ⟨fun b k q => ?_, fun _ _ => rfl, ?_, ?_, ?_, fun k hk => absurd hk (by show ¬ k < 0; omega), fun k hk => absurd hk (by show ¬ k < 0; omega), fun k hk => absurd hk (by show ¬ k < 0; omega), fun k hk => by omega, fun k hk => by omega⟩
    · by_cases hb : b = 0
      · subst hb
        rw [jm_ok (fun z => q (by unfold lscr; omega)), jm_ok (fun z => q (by unfold lscr; omega)), jm_ok (fun z => q (by unfold lscr; omega))]
      · rw [jm_ob hb, jm_ob hb, jm_ob hb]
    · simp (disch := omega) only [forall_eq, forall_eq', exists_eq_left, exists_eq_left', true_and, and_true, true_implies, false_implies, not_true_eq_false, not_false_eq_true, Prod.mk.injEq, Option.some.injEq, reduceCtorEq, and_self, implies_true, eq_self, Classical.not_not, and_false, false_and, ite_true, ite_false, reduceIte, bI_0, or_false, false_or, or_true, true_or, or_self, if_true, if_false, n_le_t, n_le_f, n_lt_t, n_lt_f, n_eq_t, n_eq_f, n_toInt, n_cl, n_vp, n_eqM, M_eqn, n_leM, n_ltM, M_len, M_ltn, M_add, n_sub, iM_toInt, x_lt_t, x_lt_f, x_le_t, x_le_f, lt_x_t, lt_x_f, le_x_t, le_x_f, x_eq_f, nI_add, pk_mul, bI_t, bI_f, Int32.toInt_toInt64, n_subI, x_add0, i_le_t, i_le_f, i_lt_t, i_lt_f, k_le_t, k_le_f, k_lt_t, k_lt_f, li_0, li_1, li_2, li_3, li_4, li_5, li_6, li_7, li_8, li_9, li_10, li_11, li_12, li_16, li_20, li_24, li_25, li_26, li_30, li_31, li_32, li_40, li_48, li_49, li_57, li_59, li_60, li_63, li_64, li_65, li_90, li_96, li_97, li_106, li_122, li_255, li_300, li_600, li_800, li_900, li_1850, li_2000, li_2010, li_2040, li_2801, li_3300, li_4161, li_9999, li_10163, li_16500, li_16800, li_17100, li_18350, li_18510, li_18540, li_65536, li_100000, li_999999, li_1000000, li_2147483647, im_1, im_8, ll_0, ll_1, ll_2, ll_3, ll_4, ll_6, ll_16, ll_20, ll_40, ll_63, ll_800, ll_9999, jm_same, jm_ob, jm_ok, jm_il, jm_li, jm_lsame, jm_lob, jm_lok, Nat.reduceAdd, Nat.reduceMul, Nat.zero_add, Nat.add_zero, Nat.mul_zero, Nat.zero_mul, e_mw_isSmall, e_mw_isDigit, e_mw_isDigit0, e_mw_isGreat, e_xs_isSmall, e_xs_isFigure, e_xs_isGreat, e_mw_isLetter, e_xs_isLetter, e_isBlank, e_xs_isBlank, e_isFrom, e_isIn]; rfl
    · simp (disch := omega) only [forall_eq, forall_eq', exists_eq_left, exists_eq_left', true_and, and_true, true_implies, false_implies, not_true_eq_false, not_false_eq_true, Prod.mk.injEq, Option.some.injEq, reduceCtorEq, and_self, implies_true, eq_self, Classical.not_not, and_false, false_and, ite_true, ite_false, reduceIte, bI_0, or_false, false_or, or_true, true_or, or_self, if_true, if_false, n_le_t, n_le_f, n_lt_t, n_lt_f, n_eq_t, n_eq_f, n_toInt, n_cl, n_vp, n_eqM, M_eqn, n_leM, n_ltM, M_len, M_ltn, M_add, n_sub, iM_toInt, x_lt_t, x_lt_f, x_le_t, x_le_f, lt_x_t, lt_x_f, le_x_t, le_x_f, x_eq_f, nI_add, pk_mul, bI_t, bI_f, Int32.toInt_toInt64, n_subI, x_add0, i_le_t, i_le_f, i_lt_t, i_lt_f, k_le_t, k_le_f, k_lt_t, k_lt_f, li_0, li_1, li_2, li_3, li_4, li_5, li_6, li_7, li_8, li_9, li_10, li_11, li_12, li_16, li_20, li_24, li_25, li_26, li_30, li_31, li_32, li_40, li_48, li_49, li_57, li_59, li_60, li_63, li_64, li_65, li_90, li_96, li_97, li_106, li_122, li_255, li_300, li_600, li_800, li_900, li_1850, li_2000, li_2010, li_2040, li_2801, li_3300, li_4161, li_9999, li_10163, li_16500, li_16800, li_17100, li_18350, li_18510, li_18540, li_65536, li_100000, li_999999, li_1000000, li_2147483647, im_1, im_8, ll_0, ll_1, ll_2, ll_3, ll_4, ll_6, ll_16, ll_20, ll_40, ll_63, ll_800, ll_9999, jm_same, jm_ob, jm_ok, jm_il, jm_li, jm_lsame, jm_lob, jm_lok, Nat.reduceAdd, Nat.reduceMul, Nat.zero_add, Nat.add_zero, Nat.mul_zero, Nat.zero_mul, e_mw_isSmall, e_mw_isDigit, e_mw_isDigit0, e_mw_isGreat, e_xs_isSmall, e_xs_isFigure, e_xs_isGreat, e_mw_isLetter, e_xs_isLetter, e_isBlank, e_xs_isBlank, e_isFrom, e_isIn]; rfl
    · simp (disch := omega) only [forall_eq, forall_eq', exists_eq_left, exists_eq_left', true_and, and_true, true_implies, false_implies, not_true_eq_false, not_false_eq_true, Prod.mk.injEq, Option.some.injEq, reduceCtorEq, and_self, implies_true, eq_self, Classical.not_not, and_false, false_and, ite_true, ite_false, reduceIte, bI_0, or_false, false_or, or_true, true_or, or_self, if_true, if_false, n_le_t, n_le_f, n_lt_t, n_lt_f, n_eq_t, n_eq_f, n_toInt, n_cl, n_vp, n_eqM, M_eqn, n_leM, n_ltM, M_len, M_ltn, M_add, n_sub, iM_toInt, x_lt_t, x_lt_f, x_le_t, x_le_f, lt_x_t, lt_x_f, le_x_t, le_x_f, x_eq_f, nI_add, pk_mul, bI_t, bI_f, Int32.toInt_toInt64, n_subI, x_add0, i_le_t, i_le_f, i_lt_t, i_lt_f, k_le_t, k_le_f, k_lt_t, k_lt_f, li_0, li_1, li_2, li_3, li_4, li_5, li_6, li_7, li_8, li_9, li_10, li_11, li_12, li_16, li_20, li_24, li_25, li_26, li_30, li_31, li_32, li_40, li_48, li_49, li_57, li_59, li_60, li_63, li_64, li_65, li_90, li_96, li_97, li_106, li_122, li_255, li_300, li_600, li_800, li_900, li_1850, li_2000, li_2010, li_2040, li_2801, li_3300, li_4161, li_9999, li_10163, li_16500, li_16800, li_17100, li_18350, li_18510, li_18540, li_65536, li_100000, li_999999, li_1000000, li_2147483647, im_1, im_8, ll_0, ll_1, ll_2, ll_3, ll_4, ll_6, ll_16, ll_20, ll_40, ll_63, ll_800, ll_9999, jm_same, jm_ob, jm_ok, jm_il, jm_li, jm_lsame, jm_lob, jm_lok, Nat.reduceAdd, Nat.reduceMul, Nat.zero_add, Nat.add_zero, Nat.mul_zero, Nat.zero_mul, e_mw_isSmall, e_mw_isDigit, e_mw_isDigit0, e_mw_isGreat, e_xs_isSmall, e_xs_isFigure, e_xs_isGreat, e_mw_isLetter, e_xs_isLetter, e_isBlank, e_xs_isBlank, e_isFrom, e_isIn]; rfl
  · unfold mw_laysLines_L24 mw_laysLines_L24_S
    simp (disch := omega) only [hR.sl, w9, forall_eq, forall_eq', exists_eq_left, exists_eq_left', true_and, and_true, true_implies, false_implies, not_true_eq_false, not_false_eq_true, Prod.mk.injEq, Option.some.injEq, reduceCtorEq, and_self, implies_true, eq_self, Classical.not_not, and_false, false_and, ite_true, ite_false, reduceIte, bI_0, or_false, false_or, or_true, true_or, or_self, if_true, if_false, n_le_t, n_le_f, n_lt_t, n_lt_f, n_eq_t, n_eq_f, n_toInt, n_cl, n_vp, n_eqM, M_eqn, n_leM, n_ltM, M_len, M_ltn, M_add, n_sub, iM_toInt, x_lt_t, x_lt_f, x_le_t, x_le_f, lt_x_t, lt_x_f, le_x_t, le_x_f, x_eq_f, nI_add, pk_mul, bI_t, bI_f, Int32.toInt_toInt64, n_subI, x_add0, i_le_t, i_le_f, i_lt_t, i_lt_f, k_le_t, k_le_f, k_lt_t, k_lt_f, li_0, li_1, li_2, li_3, li_4, li_5, li_6, li_7, li_8, li_9, li_10, li_11, li_12, li_16, li_20, li_24, li_25, li_26, li_30, li_31, li_32, li_40, li_48, li_49, li_57, li_59, li_60, li_63, li_64, li_65, li_90, li_96, li_97, li_106, li_122, li_255, li_300, li_600, li_800, li_900, li_1850, li_2000, li_2010, li_2040, li_2801, li_3300, li_4161, li_9999, li_10163, li_16500, li_16800, li_17100, li_18350, li_18510, li_18540, li_65536, li_100000, li_999999, li_1000000, li_2147483647, im_1, im_8, ll_0, ll_1, ll_2, ll_3, ll_4, ll_6, ll_16, ll_20, ll_40, ll_63, ll_800, ll_9999, jm_same, jm_ob, jm_ok, jm_il, jm_li, jm_lsame, jm_lob, jm_lok, Nat.reduceAdd, Nat.reduceMul, Nat.zero_add, Nat.add_zero, Nat.mul_zero, Nat.zero_mul, e_mw_isSmall, e_mw_isDigit, e_mw_isDigit0, e_mw_isGreat, e_xs_isSmall, e_xs_isFigure, e_xs_isGreat, e_mw_isLetter, e_xs_isLetter, e_isBlank, e_xs_isBlank, e_isFrom, e_isIn]
    exact h v hR
  · have hB := TB.all g4a hW k (by omega)
    obtain ⟨hb1, hb2⟩ := hB.head hW hk
    have hp := pM_e hW hk
    have tail : ∀ v2, LR u v2 (lHead (sl u 0) k (lAll (sl u 0) k)) k k → mw_laysLines_B79 (mw_laysLines_L24 P (nI (hN (sl u 0) 4)) n) P (nI (hN (sl u 0) 4)) (nI k) (nI (pM (sl u 0) k)) v2 := by
      intro v2 hR2
      have rm := hb1.room (by omega) (by omega)
      have r3 := hR2.2.2.1
      unfold mw_laysLines_B79
      simp (disch := omega) only [r3, forall_eq, forall_eq', exists_eq_left, exists_eq_left', true_and, and_true, true_implies, false_implies, not_true_eq_false, not_false_eq_true, Prod.mk.injEq, Option.some.injEq, reduceCtorEq, and_self, implies_true, eq_self, Classical.not_not, and_false, false_and, ite_true, ite_false, reduceIte, bI_0, or_false, false_or, or_true, true_or, or_self, if_true, if_false, n_le_t, n_le_f, n_lt_t, n_lt_f, n_eq_t, n_eq_f, n_toInt, n_cl, n_vp, n_eqM, M_eqn, n_leM, n_ltM, M_len, M_ltn, M_add, n_sub, iM_toInt, x_lt_t, x_lt_f, x_le_t, x_le_f, lt_x_t, lt_x_f, le_x_t, le_x_f, x_eq_f, nI_add, pk_mul, bI_t, bI_f, Int32.toInt_toInt64, n_subI, x_add0, i_le_t, i_le_f, i_lt_t, i_lt_f, k_le_t, k_le_f, k_lt_t, k_lt_f, li_0, li_1, li_2, li_3, li_4, li_5, li_6, li_7, li_8, li_9, li_10, li_11, li_12, li_16, li_20, li_24, li_25, li_26, li_30, li_31, li_32, li_40, li_48, li_49, li_57, li_59, li_60, li_63, li_64, li_65, li_90, li_96, li_97, li_106, li_122, li_255, li_300, li_600, li_800, li_900, li_1850, li_2000, li_2010, li_2040, li_2801, li_3300, li_4161, li_9999, li_10163, li_16500, li_16800, li_17100, li_18350, li_18510, li_18540, li_65536, li_100000, li_999999, li_1000000, li_2147483647, im_1, im_8, ll_0, ll_1, ll_2, ll_3, ll_4, ll_6, ll_16, ll_20, ll_40, ll_63, ll_800, ll_9999, jm_same, jm_ob, jm_ok, jm_il, jm_li, jm_lsame, jm_lob, jm_lok, Nat.reduceAdd, Nat.reduceMul, Nat.zero_add, Nat.add_zero, Nat.mul_zero, Nat.zero_mul, e_mw_isSmall, e_mw_isDigit, e_mw_isDigit0, e_mw_isGreat, e_xs_isSmall, e_xs_isFigure, e_xs_isGreat, e_mw_isLetter, e_xs_isLetter, e_isBlank, e_xs_isBlank, e_isFrom, e_isIn]
      refine ⟨pM (sl u 0) k + 1, ?_⟩
      refine m_rest hT hW hk (by omega) (pM (sl u 0) k + 1) 0 (pM (sl u 0) k) (lBeg k (lHead (sl u 0) k (lAll (sl u 0) k))) _ (by omega) (by omega) hR2.beg hb1.beg hb2 (fun v3 hR3 => ih v3 hR3)
    unfold mw_laysLines_L24 mw_laysLines_L24_S
    simp (disch := omega) only [hR.sl, w9, forall_eq, forall_eq', exists_eq_left, exists_eq_left', true_and, and_true, true_implies, false_implies, not_true_eq_false, not_false_eq_true, Prod.mk.injEq, Option.some.injEq, reduceCtorEq, and_self, implies_true, eq_self, Classical.not_not, and_false, false_and, ite_true, ite_false, reduceIte, bI_0, or_false, false_or, or_true, true_or, or_self, if_true, if_false, n_le_t, n_le_f, n_lt_t, n_lt_f, n_eq_t, n_eq_f, n_toInt, n_cl, n_vp, n_eqM, M_eqn, n_leM, n_ltM, M_len, M_ltn, M_add, n_sub, iM_toInt, x_lt_t, x_lt_f, x_le_t, x_le_f, lt_x_t, lt_x_f, le_x_t, le_x_f, x_eq_f, nI_add, pk_mul, bI_t, bI_f, Int32.toInt_toInt64, n_subI, x_add0, i_le_t, i_le_f, i_lt_t, i_lt_f, k_le_t, k_le_f, k_lt_t, k_lt_f, li_0, li_1, li_2, li_3, li_4, li_5, li_6, li_7, li_8, li_9, li_10, li_11, li_12, li_16, li_20, li_24, li_25, li_26, li_30, li_31, li_32, li_40, li_48, li_49, li_57, li_59, li_60, li_63, li_64, li_65, li_90, li_96, li_97, li_106, li_122, li_255, li_300, li_600, li_800, li_900, li_1850, li_2000, li_2010, li_2040, li_2801, li_3300, li_4161, li_9999, li_10163, li_16500, li_16800, li_17100, li_18350, li_18510, li_18540, li_65536, li_100000, li_999999, li_1000000, li_2147483647, im_1, im_8, ll_0, ll_1, ll_2, ll_3, ll_4, ll_6, ll_16, ll_20, ll_40, ll_63, ll_800, ll_9999, jm_same, jm_ob, jm_ok, jm_il, jm_li, jm_lsame, jm_lob, jm_lok, Nat.reduceAdd, Nat.reduceMul, Nat.zero_add, Nat.add_zero, Nat.mul_zero, Nat.zero_mul, e_mw_isSmall, e_mw_isDigit, e_mw_isDigit0, e_mw_isGreat, e_xs_isSmall, e_xs_isFigure, e_xs_isGreat, e_mw_isLetter, e_xs_isLetter, e_isBlank, e_xs_isBlank, e_isFrom, e_isIn]
    refine m_pieceMany (fun j hj => hR.sl hj) hW hk ?_
    have r3 := hR.2.2.1
    have r8 := hR.2.2.2.2.2.2.2.1
    rcases hB with ⟨h0, hs⟩ | ⟨h0, h1, h2⟩
    · have e0 : tL (lAll (sl u 0) k) = 0 := by rw [hs]; rfl
      have eT : tT (lAll (sl u 0) k) = 0 := by rw [hs]; rfl
      rw [e0] at r3
      simp (disch := omega) only [r3, forall_eq, forall_eq', exists_eq_left, exists_eq_left', true_and, and_true, true_implies, false_implies, not_true_eq_false, not_false_eq_true, Prod.mk.injEq, Option.some.injEq, reduceCtorEq, and_self, implies_true, eq_self, Classical.not_not, and_false, false_and, ite_true, ite_false, reduceIte, bI_0, or_false, false_or, or_true, true_or, or_self, if_true, if_false, n_le_t, n_le_f, n_lt_t, n_lt_f, n_eq_t, n_eq_f, n_toInt, n_cl, n_vp, n_eqM, M_eqn, n_leM, n_ltM, M_len, M_ltn, M_add, n_sub, iM_toInt, x_lt_t, x_lt_f, x_le_t, x_le_f, lt_x_t, lt_x_f, le_x_t, le_x_f, x_eq_f, nI_add, pk_mul, bI_t, bI_f, Int32.toInt_toInt64, n_subI, x_add0, i_le_t, i_le_f, i_lt_t, i_lt_f, k_le_t, k_le_f, k_lt_t, k_lt_f, li_0, li_1, li_2, li_3, li_4, li_5, li_6, li_7, li_8, li_9, li_10, li_11, li_12, li_16, li_20, li_24, li_25, li_26, li_30, li_31, li_32, li_40, li_48, li_49, li_57, li_59, li_60, li_63, li_64, li_65, li_90, li_96, li_97, li_106, li_122, li_255, li_300, li_600, li_800, li_900, li_1850, li_2000, li_2010, li_2040, li_2801, li_3300, li_4161, li_9999, li_10163, li_16500, li_16800, li_17100, li_18350, li_18510, li_18540, li_65536, li_100000, li_999999, li_1000000, li_2147483647, im_1, im_8, ll_0, ll_1, ll_2, ll_3, ll_4, ll_6, ll_16, ll_20, ll_40, ll_63, ll_800, ll_9999, jm_same, jm_ob, jm_ok, jm_il, jm_li, jm_lsame, jm_lob, jm_lok, Nat.reduceAdd, Nat.reduceMul, Nat.zero_add, Nat.add_zero, Nat.mul_zero, Nat.zero_mul, e_mw_isSmall, e_mw_isDigit, e_mw_isDigit0, e_mw_isGreat, e_xs_isSmall, e_xs_isFigure, e_xs_isGreat, e_mw_isLetter, e_xs_isLetter, e_isBlank, e_xs_isBlank, e_isFrom, e_isIn]
      refine m_newLine hR (by omega) (by omega) (fun i hi => by omega) (fun v2 hR2 => tail v2 ?_)
      unfold lHead
      rw [if_pos (Or.inl e0)]
      exact hR2
    · have rm := h2.room (by omega) (by unfold eP; split <;> omega)
      have rT : tM (lAll (sl u 0) k) (tL (lAll (sl u 0) k) - 1) ≤ tT (lAll (sl u 0) k) := by unfold tM tU; rw [if_neg (by omega)]; omega
      simp (disch := omega) only [r3, r8, forall_eq, forall_eq', exists_eq_left, exists_eq_left', true_and, and_true, true_implies, false_implies, not_true_eq_false, not_false_eq_true, Prod.mk.injEq, Option.some.injEq, reduceCtorEq, and_self, implies_true, eq_self, Classical.not_not, and_false, false_and, ite_true, ite_false, reduceIte, bI_0, or_false, false_or, or_true, true_or, or_self, if_true, if_false, n_le_t, n_le_f, n_lt_t, n_lt_f, n_eq_t, n_eq_f, n_toInt, n_cl, n_vp, n_eqM, M_eqn, n_leM, n_ltM, M_len, M_ltn, M_add, n_sub, iM_toInt, x_lt_t, x_lt_f, x_le_t, x_le_f, lt_x_t, lt_x_f, le_x_t, le_x_f, x_eq_f, nI_add, pk_mul, bI_t, bI_f, Int32.toInt_toInt64, n_subI, x_add0, i_le_t, i_le_f, i_lt_t, i_lt_f, k_le_t, k_le_f, k_lt_t, k_lt_f, li_0, li_1, li_2, li_3, li_4, li_5, li_6, li_7, li_8, li_9, li_10, li_11, li_12, li_16, li_20, li_24, li_25, li_26, li_30, li_31, li_32, li_40, li_48, li_49, li_57, li_59, li_60, li_63, li_64, li_65, li_90, li_96, li_97, li_106, li_122, li_255, li_300, li_600, li_800, li_900, li_1850, li_2000, li_2010, li_2040, li_2801, li_3300, li_4161, li_9999, li_10163, li_16500, li_16800, li_17100, li_18350, li_18510, li_18540, li_65536, li_100000, li_999999, li_1000000, li_2147483647, im_1, im_8, ll_0, ll_1, ll_2, ll_3, ll_4, ll_6, ll_16, ll_20, ll_40, ll_63, ll_800, ll_9999, jm_same, jm_ob, jm_ok, jm_il, jm_li, jm_lsame, jm_lob, jm_lok, Nat.reduceAdd, Nat.reduceMul, Nat.zero_add, Nat.add_zero, Nat.mul_zero, Nat.zero_mul, e_mw_isSmall, e_mw_isDigit, e_mw_isDigit0, e_mw_isGreat, e_xs_isSmall, e_xs_isFigure, e_xs_isGreat, e_mw_isLetter, e_xs_isLetter, e_isBlank, e_xs_isBlank, e_isFrom, e_isIn]
      by_cases c : hN (sl u 0) 4 < tM (lAll (sl u 0) k) (tL (lAll (sl u 0) k) - 1) + 1 + pM (sl u 0) k
      · simp (disch := omega) only [forall_eq, forall_eq', exists_eq_left, exists_eq_left', true_and, and_true, true_implies, false_implies, not_true_eq_false, not_false_eq_true, Prod.mk.injEq, Option.some.injEq, reduceCtorEq, and_self, implies_true, eq_self, Classical.not_not, and_false, false_and, ite_true, ite_false, reduceIte, bI_0, or_false, false_or, or_true, true_or, or_self, if_true, if_false, n_le_t, n_le_f, n_lt_t, n_lt_f, n_eq_t, n_eq_f, n_toInt, n_cl, n_vp, n_eqM, M_eqn, n_leM, n_ltM, M_len, M_ltn, M_add, n_sub, iM_toInt, x_lt_t, x_lt_f, x_le_t, x_le_f, lt_x_t, lt_x_f, le_x_t, le_x_f, x_eq_f, nI_add, pk_mul, bI_t, bI_f, Int32.toInt_toInt64, n_subI, x_add0, i_le_t, i_le_f, i_lt_t, i_lt_f, k_le_t, k_le_f, k_lt_t, k_lt_f, li_0, li_1, li_2, li_3, li_4, li_5, li_6, li_7, li_8, li_9, li_10, li_11, li_12, li_16, li_20, li_24, li_25, li_26, li_30, li_31, li_32, li_40, li_48, li_49, li_57, li_59, li_60, li_63, li_64, li_65, li_90, li_96, li_97, li_106, li_122, li_255, li_300, li_600, li_800, li_900, li_1850, li_2000, li_2010, li_2040, li_2801, li_3300, li_4161, li_9999, li_10163, li_16500, li_16800, li_17100, li_18350, li_18510, li_18540, li_65536, li_100000, li_999999, li_1000000, li_2147483647, im_1, im_8, ll_0, ll_1, ll_2, ll_3, ll_4, ll_6, ll_16, ll_20, ll_40, ll_63, ll_800, ll_9999, jm_same, jm_ob, jm_ok, jm_il, jm_li, jm_lsame, jm_lob, jm_lok, Nat.reduceAdd, Nat.reduceMul, Nat.zero_add, Nat.add_zero, Nat.mul_zero, Nat.zero_mul, e_mw_isSmall, e_mw_isDigit, e_mw_isDigit0, e_mw_isGreat, e_xs_isSmall, e_xs_isFigure, e_xs_isGreat, e_mw_isLetter, e_xs_isLetter, e_isBlank, e_xs_isBlank, e_isFrom, e_isIn]
        refine m_newLine hR (by omega) (by omega) h2.2.2 (fun v2 hR2 => tail v2 ?_)
        unfold lHead
        rw [if_pos (Or.inr c)]
        exact hR2
      · simp (disch := omega) only [forall_eq, forall_eq', exists_eq_left, exists_eq_left', true_and, and_true, true_implies, false_implies, not_true_eq_false, not_false_eq_true, Prod.mk.injEq, Option.some.injEq, reduceCtorEq, and_self, implies_true, eq_self, Classical.not_not, and_false, false_and, ite_true, ite_false, reduceIte, bI_0, or_false, false_or, or_true, true_or, or_self, if_true, if_false, n_le_t, n_le_f, n_lt_t, n_lt_f, n_eq_t, n_eq_f, n_toInt, n_cl, n_vp, n_eqM, M_eqn, n_leM, n_ltM, M_len, M_ltn, M_add, n_sub, iM_toInt, x_lt_t, x_lt_f, x_le_t, x_le_f, lt_x_t, lt_x_f, le_x_t, le_x_f, x_eq_f, nI_add, pk_mul, bI_t, bI_f, Int32.toInt_toInt64, n_subI, x_add0, i_le_t, i_le_f, i_lt_t, i_lt_f, k_le_t, k_le_f, k_lt_t, k_lt_f, li_0, li_1, li_2, li_3, li_4, li_5, li_6, li_7, li_8, li_9, li_10, li_11, li_12, li_16, li_20, li_24, li_25, li_26, li_30, li_31, li_32, li_40, li_48, li_49, li_57, li_59, li_60, li_63, li_64, li_65, li_90, li_96, li_97, li_106, li_122, li_255, li_300, li_600, li_800, li_900, li_1850, li_2000, li_2010, li_2040, li_2801, li_3300, li_4161, li_9999, li_10163, li_16500, li_16800, li_17100, li_18350, li_18510, li_18540, li_65536, li_100000, li_999999, li_1000000, li_2147483647, im_1, im_8, ll_0, ll_1, ll_2, ll_3, ll_4, ll_6, ll_16, ll_20, ll_40, ll_63, ll_800, ll_9999, jm_same, jm_ob, jm_ok, jm_il, jm_li, jm_lsame, jm_lob, jm_lok, Nat.reduceAdd, Nat.reduceMul, Nat.zero_add, Nat.add_zero, Nat.mul_zero, Nat.zero_mul, e_mw_isSmall, e_mw_isDigit, e_mw_isDigit0, e_mw_isGreat, e_xs_isSmall, e_xs_isFigure, e_xs_isGreat, e_mw_isLetter, e_xs_isLetter, e_isBlank, e_xs_isBlank, e_isFrom, e_isIn]
        refine m_laysCell hR h1 (by omega) (by omega) h2.2.2 (fun v2 hR2 => tail v2 ?_)
        unfold lHead
        rw [if_neg (fun z => z.elim (fun z => by omega) c)]
        exact hR2
