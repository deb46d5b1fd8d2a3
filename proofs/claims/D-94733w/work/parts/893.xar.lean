/-! PLAIN LAW: drop, feed -/
set_option linter.unusedVariables false
theorem lCells_c {h h2 : Nat → Int32} (he : ∀ k, k ≠ 6 → h2 k = h k) {p n : Nat} {s : LT} : lCells h2 p n s = lCells h p n s := by
  unfold lCells
  refine it_cong n (fun k b _ => ?_)
  rw [he _ (by omega)]
theorem hN_c {h h2 : Nat → Int32} (he : ∀ k, k ≠ 6 → h2 k = h k) {k : Nat} (hk : k ≠ 6) : hN h2 k = hN h k := congrArg Int32.toNatClampNeg (he k hk)
theorem pM_c {h h2 : Nat → Int32} (he : ∀ k, k ≠ 6 → h2 k = h k) {k : Nat} : pM h2 k = pM h k := by
  unfold pM
  rw [hN_c he (k := 9) (by omega), hN_c he (k := 8) (by omega), hN_c he (k := 1850 + k) (by omega), hN_c he (k := 1850 + (k + 1)) (by omega)]
theorem lRest_c {h h2 : Nat → Int32} (he : ∀ k, k ≠ 6 → h2 k = h k) : ∀ f p n s, lRest h2 f p n s = lRest h f p n s
  | 0, p, n, s => rfl
  | f + 1, p, n, s => by
    unfold lRest
    rw [hN_c he (k := 4) (by omega), he 3 (by omega)]
    simp only [lCells_c he, lRest_c he f]
theorem lPiece_c {h h2 : Nat → Int32} (he : ∀ k, k ≠ 6 → h2 k = h k) {k : Nat} {s : LT} : lPiece h2 k s = lPiece h k s := by
  unfold lPiece
  rw [hN_c he (k := 4) (by omega), hN_c he (k := 1850 + k) (by omega), pM_c he, lRest_c he]
theorem LSh_c6 {h h2 : Nat → Int32} (he : ∀ k, k ≠ 6 → h2 k = h k) : LSh h2 = LSh h := by
  unfold LSh lAll
  rw [hN_c he (k := 9) (by omega)]
  exact it_cong _ (fun k b _ => lPiece_c he)
theorem WWs.c6 {h h2 : Nat → Int32} (he : ∀ k, k ≠ 6 → h2 k = h k) (hW : WWs h) : WWs h2 := by
  have hh : ∀ k, k ≠ 6 → hN h2 k = hN h k := fun k hk => hN_c he hk
  unfold WWs at hW ⊢
  rw [hh 7 (by omega), hh 8 (by omega), hh 9 (by omega), hh 11 (by omega), hh 0 (by omega), he 7 (by omega), he 8 (by omega), he 9 (by omega), he 11 (by omega)]
  obtain ⟨w7, wb, w8, w9, w11, wc, ws, wp, wpp⟩ := hW
  exact ⟨w7, fun k hk => by rw [hh _ (by omega), he _ (by omega)]; exact wb k hk, w8, w9, w11, fun k hk => by rw [hh _ (by omega), he _ (by omega)]; exact wc k hk, fun k hk => by rw [hh _ (by omega), he _ (by omega)]; exact ws k hk, fun k hk => by rw [hh _ (by omega), he _ (by omega)]; exact wp k hk, fun k hk => by rw [hh _ (by omega), hh _ (by omega)]; exact wpp k hk⟩
section XBR
variable {a : Nat → Nat} {K : XK} {ow : Nat → Nat} {u v : XS} {s t : Nat} {as : Nat → Nat} {h : Nat → Int32} {m n : MS}
theorem rArr.c {o f t n : Nat} {g g2 : Nat → Int32} (hA : rArr K ow u o f t n g) (he : ∀ k, k < n → g2 k = g k) : rArr K ow u o f t n g2 := by
  obtain ⟨q, h1, h2, h3, h4⟩ := hA
  exact ⟨q, h1, h2, h3, fun k hk => by rw [h4 k hk, he k hk]⟩
theorem rWri.c6 {h2 : Nat → Int32} {w : Nat} (he : ∀ k, k ≠ 6 → h2 k = h k) (hw : rWri K ow u w h) : rWri K ow u w h2 := by
  have hh : ∀ k, k ≠ 6 → hN h2 k = hN h k := fun k hk => hN_c he hk
  unfold rWri at hw ⊢
  rw [hh 7 (by omega), hh 8 (by omega), hh 9 (by omega), LSh_c6 he, he 10 (by omega), he 11 (by omega)]
  obtain ⟨y1, y2, y3, y4, y5, y6, y7, y8, y9, y10, y11, y12, y13⟩ := hw
  exact ⟨y1, y2, y3.c (fun k _ => he _ (by omega)), y4.c (fun k _ => he _ (by omega)), y5.c (fun k _ => he _ (by omega)), y6.c (fun k _ => by rw [pM_c he]), y7, y8, y9.c (fun k _ => he _ (by omega)), y10, y11, y12.c (fun k _ => he _ (by omega)), y13⟩
theorem rHou.c6 {h2 : Nat → Int32} {o : Nat} (he : ∀ k, k ≠ 6 → h2 k = h k) (hh : rHou K ow u o h) (e1 : xi v o 1 = h2 6) (e0 : xr v o 0 = xr u o 0) (e2 : xr v o 2 = xr u o 2) (hF : Fz K ow u K ow v) : rHou K ow v o h2 := by
  obtain ⟨hT, hW, k, ⟨tb, ptb, hTb⟩, cdr, hwr⟩ := hh
  have hT2 : WT h2 := hT.cong (fun k hk => he k (by omega))
  refine ⟨hT2, ?_, k, ⟨tb, by rw [e0, ptb], (hTb.cong (fun k hk => he k (by omega)) hT).fz hF⟩, e1, ?_⟩
  · rcases hW with h7 | hW
    · exact Or.inl (by rw [he 7 (by omega)]; exact h7)
    · exact Or.inr (hW.c6 he)
  · rcases hwr with ⟨h7, pw⟩ | ⟨hW, w, pw, hw⟩
    · exact Or.inl ⟨by rw [he 7 (by omega)]; exact h7, by rw [e2, pw]⟩
    · exact Or.inr ⟨hW.c6 he, w, by rw [e2, pw], (hw.c6 he).fz hF⟩
theorem b_drop (g b : Int32) : (g &&& (b ^^^ iM)) ||| b = g ||| b := by
  have e : iM.toBitVec = BitVec.allOnes 32 := by decide
  apply Int32.toBitVec_inj.mp
  rw [Int32.toBitVec_or, Int32.toBitVec_or, Int32.toBitVec_and, Int32.toBitVec_xor, e]
  apply BitVec.eq_of_getElem_eq
  intro i hi
  simp only [BitVec.getElem_or, BitVec.getElem_and, BitVec.getElem_xor, BitVec.getElem_allOnes]
  cases g.toBitVec[i] <;> cases b.toBitVec[i] <;> rfl
theorem b_or0 (g : Int32) : g ||| nI 0 = g := by
  show g ||| 0 = g
  exact Int32.or_zero
/-- the dropped rules change -/
theorem Rep.drp (hR : Rep a K ow u m) (g : Int32) : Rep a K ow (xsi (xsi u (a 0) 7 (nI 0)) (a 2) 1 g) (jm_s (jm_s m 1 6 g) 0 1 (nI 0)) := by
  have hR1 := hR.st (nI 0)
  have o0 : ow (a 0) = 0 := hR.1.2.1 0 (by omega)
  have o2 : ow (a 2) = 2 := hR.1.2.1 2 (by omega)
  have e1 : sl (jm_s (jm_s m 1 6 g) 0 1 (nI 0)) 0 = up (sl m 0) 6 g := by
    rw [sl_so (by omega)]
    funext k
    unfold sl
    by_cases hk : k < 3300
    · simp only [hk, if_true, Nat.mul_zero, Nat.zero_add]
      by_cases z : k = 6
      · subst z; rw [up_s, jm_same]
      · rw [up_n z, jm_ok z]; simp only [hk, if_true]
    · rw [up_n (by omega)]; simp only [hk, if_false]
  refine hR1.hou (fun b k hb => xi_oa ow (by omega)) (fun b k => rfl) (fun b k _ => rfl) ?_ (fun b k hs hk => ⟨?_, rfl⟩) (by rw [jm_same, jm_same])
  · rw [e1]
    have hF : Fz K ow (xsi u (a 0) 7 (nI 0)) K ow (xsi (xsi u (a 0) 7 (nI 0)) (a 2) 1 g) := ⟨fun _ _ => ⟨rfl, rfl⟩, fun b k _ ho => ⟨xi_oa ow (by omega), rfl⟩⟩
    have hh := hR1.2.2.2.1
    rw [sl_so (by omega)] at hh
    exact hh.c6 (fun k hk => up_n hk) (by rw [xi_same, up_s]) rfl rfl hF
  · have hn1 : ¬ (b = 0 ∧ k = 1) := fun z => hs (by unfold scr; omega)
    have hn2 : ¬ (b = 1 ∧ k = 6) := fun z => hk (by omega)
    simp only [jm_i, jm_s, if_neg hn1, if_neg hn2]
set_option maxHeartbeats 4000000 in
theorem s_drop (hR : Rep a K ow u m) (x y : Int32) : ST a m (fun _ _ P => xw0_drop (a 0) x y K u (fun r v => P r K v)) (mw_drop x y) := by
  intro mc ms P hmc hms hP
  have hR0 := hR
  obtain ⟨⟨⟨k0, k1, k2, k3, k4, k5, k6, k7, k8, k9, k10, k11, k12, k13, k14, k15, k16, k17, k18, k19, k20⟩, hO, ⟨p0, p1, p2, p6, p10, p11, p14, p15, p16, p17, p18, p21, p22, p23, p24, p25⟩, ⟨t0, t1, t2, t3⟩⟩, ⟨⟨c3, tn, c3n, c3l⟩, c4, c5, c7, c8, c9, ctape, cfirst, cworn⟩, hTr, ⟨⟨⟨g0, g0l⟩, ⟨g1, g1l⟩, ⟨g2, g2l⟩, ⟨g3, g3l⟩, ⟨g4, g4a, g4b⟩, ⟨g5, g5a, g5b⟩, gru⟩, hWW, _, ⟨tb, ptb, ⟨ra, ktb, otb, pra, kra, ora, f1, f2, f3, f4, f5, f6, hru⟩⟩, cdr, hwr⟩, hMar, s, as, ps, hSet⟩ := hR
  have o0 : ow (a 0) = 0 := hO 0 (by omega)
  have o2 : ow (a 2) = 2 := hO 2 (by omega)
  clear hMar hSet hTr cfirst cworn ctape gru hru hwr
  rcases pl_ix x (hN (sl m 0) 0) with hx | hx | ⟨j, hj, rfl⟩
  · simp (disch := omega) only [xw0_drop, xw0_drop_B14, k0, k2, k12, p0, p1, p2, p6, p10, p11, p14, p15, p16, p17, p18, p21, p22, p23, p24, p25, ptb, ktb, pra, kra, f1, f2, f3, f4, f5, f6, g0, g4, g5, cdr, xw0_isSet, xw0_whyNotSet, xw0_answer, xw0_table, xw0_isRule, xw0_at, xw0_isThere, xw15_lines, forall_eq, forall_eq', exists_eq_left, exists_eq_left', true_and, and_true, true_implies, false_implies, not_true_eq_false, not_false_eq_true, Prod.mk.injEq, Option.some.injEq, reduceCtorEq, and_self, implies_true, eq_self, Classical.not_not, and_false, false_and, ite_true, ite_false, reduceIte, bI_0, or_false, false_or, or_true, true_or, or_self, if_true, if_false, n_le_t, n_le_f, n_lt_t, n_lt_f, n_eq_t, n_eq_f, n_toInt, n_cl, n_vp, n_eqM, M_eqn, n_leM, n_ltM, M_len, M_ltn, M_add, n_sub, iM_toInt, x_lt_t, x_lt_f, x_le_t, x_le_f, lt_x_t, lt_x_f, le_x_t, le_x_f, x_eq_f, nI_add, pk_mul, bI_t, bI_f, Int32.toInt_toInt64, n_subI, x_add0, i_le_t, i_le_f, i_lt_t, i_lt_f, k_le_t, k_le_f, k_lt_t, k_lt_f, li_0, li_1, li_2, li_3, li_4, li_5, li_6, li_7, li_8, li_9, li_10, li_11, li_12, li_16, li_20, li_24, li_25, li_26, li_30, li_31, li_32, li_40, li_48, li_49, li_57, li_59, li_60, li_63, li_64, li_65, li_90, li_96, li_97, li_106, li_122, li_255, li_300, li_600, li_800, li_900, li_1850, li_2000, li_2010, li_2040, li_2801, li_3300, li_4161, li_9999, li_10163, li_16500, li_16800, li_17100, li_18350, li_18510, li_18540, li_65536, li_100000, li_999999, li_1000000, li_2147483647, im_1, im_8, ll_0, ll_1, ll_2, ll_3, ll_4, ll_6, ll_16, ll_20, ll_40, ll_63, ll_800, ll_9999, xi_same, xi_oa ow, xi_ok, xi_r, xi_l, xl_i, xl_r, xr_i, xr_l, xr_same, xr_oa ow, xr_ok, xl_same, xl_oa ow, xl_ok, Nat.reduceAdd, Nat.reduceMul, Nat.zero_add, Nat.add_zero, Nat.mul_zero, Nat.zero_mul, e_mw_isSmall, e_mw_isDigit, e_mw_isDigit0, e_mw_isGreat, e_xs_isSmall, e_xs_isFigure, e_xs_isGreat, e_mw_isLetter, e_xs_isLetter, e_isBlank, e_xs_isBlank, e_isFrom, e_isIn]
    refine hP _ _ _ (fun Q hQ => ?_)
    simp (disch := omega) only [mw_drop, g0, g4, g5, mw_isSet, mw_refuse, mw_gives, mw_is, mw_isRule, mw_ruleAt, mw_cellsOf, mw_cellAt, sl_of (m := m), forall_eq, forall_eq', exists_eq_left, exists_eq_left', true_and, and_true, true_implies, false_implies, not_true_eq_false, not_false_eq_true, Prod.mk.injEq, Option.some.injEq, reduceCtorEq, and_self, implies_true, eq_self, Classical.not_not, and_false, false_and, ite_true, ite_false, reduceIte, bI_0, or_false, false_or, or_true, true_or, or_self, if_true, if_false, n_le_t, n_le_f, n_lt_t, n_lt_f, n_eq_t, n_eq_f, n_toInt, n_cl, n_vp, n_eqM, M_eqn, n_leM, n_ltM, M_len, M_ltn, M_add, n_sub, iM_toInt, x_lt_t, x_lt_f, x_le_t, x_le_f, lt_x_t, lt_x_f, le_x_t, le_x_f, x_eq_f, nI_add, pk_mul, bI_t, bI_f, Int32.toInt_toInt64, n_subI, x_add0, i_le_t, i_le_f, i_lt_t, i_lt_f, k_le_t, k_le_f, k_lt_t, k_lt_f, li_0, li_1, li_2, li_3, li_4, li_5, li_6, li_7, li_8, li_9, li_10, li_11, li_12, li_16, li_20, li_24, li_25, li_26, li_30, li_31, li_32, li_40, li_48, li_49, li_57, li_59, li_60, li_63, li_64, li_65, li_90, li_96, li_97, li_106, li_122, li_255, li_300, li_600, li_800, li_900, li_1850, li_2000, li_2010, li_2040, li_2801, li_3300, li_4161, li_9999, li_10163, li_16500, li_16800, li_17100, li_18350, li_18510, li_18540, li_65536, li_100000, li_999999, li_1000000, li_2147483647, im_1, im_8, ll_0, ll_1, ll_2, ll_3, ll_4, ll_6, ll_16, ll_20, ll_40, ll_63, ll_800, ll_9999, jm_same, jm_ob, jm_ok, jm_il, jm_li, jm_lsame, jm_lob, jm_lok, Nat.reduceAdd, Nat.reduceMul, Nat.zero_add, Nat.add_zero, Nat.mul_zero, Nat.zero_mul, e_mw_isSmall, e_mw_isDigit, e_mw_isDigit0, e_mw_isGreat, e_xs_isSmall, e_xs_isFigure, e_xs_isGreat, e_mw_isLetter, e_xs_isLetter, e_isBlank, e_xs_isBlank, e_isFrom, e_isIn]
    exact hQ _ _ (hR0.st _)
  · simp (disch := omega) only [xw0_drop, xw0_drop_B14, k0, k2, k12, p0, p1, p2, p6, p10, p11, p14, p15, p16, p17, p18, p21, p22, p23, p24, p25, ptb, ktb, pra, kra, f1, f2, f3, f4, f5, f6, g0, g4, g5, cdr, xw0_isSet, xw0_whyNotSet, xw0_answer, xw0_table, xw0_isRule, xw0_at, xw0_isThere, xw15_lines, forall_eq, forall_eq', exists_eq_left, exists_eq_left', true_and, and_true, true_implies, false_implies, not_true_eq_false, not_false_eq_true, Prod.mk.injEq, Option.some.injEq, reduceCtorEq, and_self, implies_true, eq_self, Classical.not_not, and_false, false_and, ite_true, ite_false, reduceIte, bI_0, or_false, false_or, or_true, true_or, or_self, if_true, if_false, n_le_t, n_le_f, n_lt_t, n_lt_f, n_eq_t, n_eq_f, n_toInt, n_cl, n_vp, n_eqM, M_eqn, n_leM, n_ltM, M_len, M_ltn, M_add, n_sub, iM_toInt, x_lt_t, x_lt_f, x_le_t, x_le_f, lt_x_t, lt_x_f, le_x_t, le_x_f, x_eq_f, nI_add, pk_mul, bI_t, bI_f, Int32.toInt_toInt64, n_subI, x_add0, i_le_t, i_le_f, i_lt_t, i_lt_f, k_le_t, k_le_f, k_lt_t, k_lt_f, li_0, li_1, li_2, li_3, li_4, li_5, li_6, li_7, li_8, li_9, li_10, li_11, li_12, li_16, li_20, li_24, li_25, li_26, li_30, li_31, li_32, li_40, li_48, li_49, li_57, li_59, li_60, li_63, li_64, li_65, li_90, li_96, li_97, li_106, li_122, li_255, li_300, li_600, li_800, li_900, li_1850, li_2000, li_2010, li_2040, li_2801, li_3300, li_4161, li_9999, li_10163, li_16500, li_16800, li_17100, li_18350, li_18510, li_18540, li_65536, li_100000, li_999999, li_1000000, li_2147483647, im_1, im_8, ll_0, ll_1, ll_2, ll_3, ll_4, ll_6, ll_16, ll_20, ll_40, ll_63, ll_800, ll_9999, xi_same, xi_oa ow, xi_ok, xi_r, xi_l, xl_i, xl_r, xr_i, xr_l, xr_same, xr_oa ow, xr_ok, xl_same, xl_oa ow, xl_ok, Nat.reduceAdd, Nat.reduceMul, Nat.zero_add, Nat.add_zero, Nat.mul_zero, Nat.zero_mul, e_mw_isSmall, e_mw_isDigit, e_mw_isDigit0, e_mw_isGreat, e_xs_isSmall, e_xs_isFigure, e_xs_isGreat, e_mw_isLetter, e_xs_isLetter, e_isBlank, e_xs_isBlank, e_isFrom, e_isIn]
    refine hP _ _ _ (fun Q hQ => ?_)
    simp (disch := omega) only [mw_drop, g0, g4, g5, mw_isSet, mw_refuse, mw_gives, mw_is, mw_isRule, mw_ruleAt, mw_cellsOf, mw_cellAt, sl_of (m := m), forall_eq, forall_eq', exists_eq_left, exists_eq_left', true_and, and_true, true_implies, false_implies, not_true_eq_false, not_false_eq_true, Prod.mk.injEq, Option.some.injEq, reduceCtorEq, and_self, implies_true, eq_self, Classical.not_not, and_false, false_and, ite_true, ite_false, reduceIte, bI_0, or_false, false_or, or_true, true_or, or_self, if_true, if_false, n_le_t, n_le_f, n_lt_t, n_lt_f, n_eq_t, n_eq_f, n_toInt, n_cl, n_vp, n_eqM, M_eqn, n_leM, n_ltM, M_len, M_ltn, M_add, n_sub, iM_toInt, x_lt_t, x_lt_f, x_le_t, x_le_f, lt_x_t, lt_x_f, le_x_t, le_x_f, x_eq_f, nI_add, pk_mul, bI_t, bI_f, Int32.toInt_toInt64, n_subI, x_add0, i_le_t, i_le_f, i_lt_t, i_lt_f, k_le_t, k_le_f, k_lt_t, k_lt_f, li_0, li_1, li_2, li_3, li_4, li_5, li_6, li_7, li_8, li_9, li_10, li_11, li_12, li_16, li_20, li_24, li_25, li_26, li_30, li_31, li_32, li_40, li_48, li_49, li_57, li_59, li_60, li_63, li_64, li_65, li_90, li_96, li_97, li_106, li_122, li_255, li_300, li_600, li_800, li_900, li_1850, li_2000, li_2010, li_2040, li_2801, li_3300, li_4161, li_9999, li_10163, li_16500, li_16800, li_17100, li_18350, li_18510, li_18540, li_65536, li_100000, li_999999, li_1000000, li_2147483647, im_1, im_8, ll_0, ll_1, ll_2, ll_3, ll_4, ll_6, ll_16, ll_20, ll_40, ll_63, ll_800, ll_9999, jm_same, jm_ob, jm_ok, jm_il, jm_li, jm_lsame, jm_lob, jm_lok, Nat.reduceAdd, Nat.reduceMul, Nat.zero_add, Nat.add_zero, Nat.mul_zero, Nat.zero_mul, e_mw_isSmall, e_mw_isDigit, e_mw_isDigit0, e_mw_isGreat, e_xs_isSmall, e_xs_isFigure, e_xs_isGreat, e_mw_isLetter, e_xs_isLetter, e_isBlank, e_xs_isBlank, e_isFrom, e_isIn]
    exact hQ _ _ (hR0.st _)
  · by_cases hy : y = nI 0
    · subst hy
      simp (disch := omega) only [xw0_drop, xw0_drop_B14, k0, k2, k12, p0, p1, p2, p6, p10, p11, p14, p15, p16, p17, p18, p21, p22, p23, p24, p25, ptb, ktb, pra, kra, f1, f2, f3, f4, f5, f6, g0, g4, g5, cdr, xw0_isSet, xw0_whyNotSet, xw0_answer, xw0_table, xw0_isRule, xw0_at, xw0_isThere, xw15_lines, forall_eq, forall_eq', exists_eq_left, exists_eq_left', true_and, and_true, true_implies, false_implies, not_true_eq_false, not_false_eq_true, Prod.mk.injEq, Option.some.injEq, reduceCtorEq, and_self, implies_true, eq_self, Classical.not_not, and_false, false_and, ite_true, ite_false, reduceIte, bI_0, or_false, false_or, or_true, true_or, or_self, if_true, if_false, n_le_t, n_le_f, n_lt_t, n_lt_f, n_eq_t, n_eq_f, n_toInt, n_cl, n_vp, n_eqM, M_eqn, n_leM, n_ltM, M_len, M_ltn, M_add, n_sub, iM_toInt, x_lt_t, x_lt_f, x_le_t, x_le_f, lt_x_t, lt_x_f, le_x_t, le_x_f, x_eq_f, nI_add, pk_mul, bI_t, bI_f, Int32.toInt_toInt64, n_subI, x_add0, i_le_t, i_le_f, i_lt_t, i_lt_f, k_le_t, k_le_f, k_lt_t, k_lt_f, li_0, li_1, li_2, li_3, li_4, li_5, li_6, li_7, li_8, li_9, li_10, li_11, li_12, li_16, li_20, li_24, li_25, li_26, li_30, li_31, li_32, li_40, li_48, li_49, li_57, li_59, li_60, li_63, li_64, li_65, li_90, li_96, li_97, li_106, li_122, li_255, li_300, li_600, li_800, li_900, li_1850, li_2000, li_2010, li_2040, li_2801, li_3300, li_4161, li_9999, li_10163, li_16500, li_16800, li_17100, li_18350, li_18510, li_18540, li_65536, li_100000, li_999999, li_1000000, li_2147483647, im_1, im_8, ll_0, ll_1, ll_2, ll_3, ll_4, ll_6, ll_16, ll_20, ll_40, ll_63, ll_800, ll_9999, xi_same, xi_oa ow, xi_ok, xi_r, xi_l, xl_i, xl_r, xr_i, xr_l, xr_same, xr_oa ow, xr_ok, xl_same, xl_oa ow, xl_ok, Nat.reduceAdd, Nat.reduceMul, Nat.zero_add, Nat.add_zero, Nat.mul_zero, Nat.zero_mul, e_mw_isSmall, e_mw_isDigit, e_mw_isDigit0, e_mw_isGreat, e_xs_isSmall, e_xs_isFigure, e_xs_isGreat, e_mw_isLetter, e_xs_isLetter, e_isBlank, e_xs_isBlank, e_isFrom, e_isIn]
      refine hP _ _ _ (fun Q hQ => ?_)
      simp (disch := omega) only [mw_drop, g0, g4, g5, b_or0, mw_isSet, mw_refuse, mw_gives, mw_is, mw_isRule, mw_ruleAt, mw_cellsOf, mw_cellAt, sl_of (m := m), forall_eq, forall_eq', exists_eq_left, exists_eq_left', true_and, and_true, true_implies, false_implies, not_true_eq_false, not_false_eq_true, Prod.mk.injEq, Option.some.injEq, reduceCtorEq, and_self, implies_true, eq_self, Classical.not_not, and_false, false_and, ite_true, ite_false, reduceIte, bI_0, or_false, false_or, or_true, true_or, or_self, if_true, if_false, n_le_t, n_le_f, n_lt_t, n_lt_f, n_eq_t, n_eq_f, n_toInt, n_cl, n_vp, n_eqM, M_eqn, n_leM, n_ltM, M_len, M_ltn, M_add, n_sub, iM_toInt, x_lt_t, x_lt_f, x_le_t, x_le_f, lt_x_t, lt_x_f, le_x_t, le_x_f, x_eq_f, nI_add, pk_mul, bI_t, bI_f, Int32.toInt_toInt64, n_subI, x_add0, i_le_t, i_le_f, i_lt_t, i_lt_f, k_le_t, k_le_f, k_lt_t, k_lt_f, li_0, li_1, li_2, li_3, li_4, li_5, li_6, li_7, li_8, li_9, li_10, li_11, li_12, li_16, li_20, li_24, li_25, li_26, li_30, li_31, li_32, li_40, li_48, li_49, li_57, li_59, li_60, li_63, li_64, li_65, li_90, li_96, li_97, li_106, li_122, li_255, li_300, li_600, li_800, li_900, li_1850, li_2000, li_2010, li_2040, li_2801, li_3300, li_4161, li_9999, li_10163, li_16500, li_16800, li_17100, li_18350, li_18510, li_18540, li_65536, li_100000, li_999999, li_1000000, li_2147483647, im_1, im_8, ll_0, ll_1, ll_2, ll_3, ll_4, ll_6, ll_16, ll_20, ll_40, ll_63, ll_800, ll_9999, jm_same, jm_ob, jm_ok, jm_il, jm_li, jm_lsame, jm_lob, jm_lok, Nat.reduceAdd, Nat.reduceMul, Nat.zero_add, Nat.add_zero, Nat.mul_zero, Nat.zero_mul, e_mw_isSmall, e_mw_isDigit, e_mw_isDigit0, e_mw_isGreat, e_xs_isSmall, e_xs_isFigure, e_xs_isGreat, e_mw_isLetter, e_xs_isLetter, e_isBlank, e_xs_isBlank, e_isFrom, e_isIn]
      exact hQ _ _ (hR0.drp _)
    · simp (disch := omega) only [xw0_drop, xw0_drop_B14, k0, k2, k12, p0, p1, p2, p6, p10, p11, p14, p15, p16, p17, p18, p21, p22, p23, p24, p25, ptb, ktb, pra, kra, f1, f2, f3, f4, f5, f6, g0, g4, g5, cdr, hy, xw0_isSet, xw0_whyNotSet, xw0_answer, xw0_table, xw0_isRule, xw0_at, xw0_isThere, xw15_lines, forall_eq, forall_eq', exists_eq_left, exists_eq_left', true_and, and_true, true_implies, false_implies, not_true_eq_false, not_false_eq_true, Prod.mk.injEq, Option.some.injEq, reduceCtorEq, and_self, implies_true, eq_self, Classical.not_not, and_false, false_and, ite_true, ite_false, reduceIte, bI_0, or_false, false_or, or_true, true_or, or_self, if_true, if_false, n_le_t, n_le_f, n_lt_t, n_lt_f, n_eq_t, n_eq_f, n_toInt, n_cl, n_vp, n_eqM, M_eqn, n_leM, n_ltM, M_len, M_ltn, M_add, n_sub, iM_toInt, x_lt_t, x_lt_f, x_le_t, x_le_f, lt_x_t, lt_x_f, le_x_t, le_x_f, x_eq_f, nI_add, pk_mul, bI_t, bI_f, Int32.toInt_toInt64, n_subI, x_add0, i_le_t, i_le_f, i_lt_t, i_lt_f, k_le_t, k_le_f, k_lt_t, k_lt_f, li_0, li_1, li_2, li_3, li_4, li_5, li_6, li_7, li_8, li_9, li_10, li_11, li_12, li_16, li_20, li_24, li_25, li_26, li_30, li_31, li_32, li_40, li_48, li_49, li_57, li_59, li_60, li_63, li_64, li_65, li_90, li_96, li_97, li_106, li_122, li_255, li_300, li_600, li_800, li_900, li_1850, li_2000, li_2010, li_2040, li_2801, li_3300, li_4161, li_9999, li_10163, li_16500, li_16800, li_17100, li_18350, li_18510, li_18540, li_65536, li_100000, li_999999, li_1000000, li_2147483647, im_1, im_8, ll_0, ll_1, ll_2, ll_3, ll_4, ll_6, ll_16, ll_20, ll_40, ll_63, ll_800, ll_9999, xi_same, xi_oa ow, xi_ok, xi_r, xi_l, xl_i, xl_r, xr_i, xr_l, xr_same, xr_oa ow, xr_ok, xl_same, xl_oa ow, xl_ok, Nat.reduceAdd, Nat.reduceMul, Nat.zero_add, Nat.add_zero, Nat.mul_zero, Nat.zero_mul, e_mw_isSmall, e_mw_isDigit, e_mw_isDigit0, e_mw_isGreat, e_xs_isSmall, e_xs_isFigure, e_xs_isGreat, e_mw_isLetter, e_xs_isLetter, e_isBlank, e_xs_isBlank, e_isFrom, e_isIn]
      refine hP _ _ _ (fun Q hQ => ?_)
      simp (disch := omega) only [mw_drop, g0, g4, g5, hy, b_drop, mw_isSet, mw_refuse, mw_gives, mw_is, mw_isRule, mw_ruleAt, mw_cellsOf, mw_cellAt, sl_of (m := m), forall_eq, forall_eq', exists_eq_left, exists_eq_left', true_and, and_true, true_implies, false_implies, not_true_eq_false, not_false_eq_true, Prod.mk.injEq, Option.some.injEq, reduceCtorEq, and_self, implies_true, eq_self, Classical.not_not, and_false, false_and, ite_true, ite_false, reduceIte, bI_0, or_false, false_or, or_true, true_or, or_self, if_true, if_false, n_le_t, n_le_f, n_lt_t, n_lt_f, n_eq_t, n_eq_f, n_toInt, n_cl, n_vp, n_eqM, M_eqn, n_leM, n_ltM, M_len, M_ltn, M_add, n_sub, iM_toInt, x_lt_t, x_lt_f, x_le_t, x_le_f, lt_x_t, lt_x_f, le_x_t, le_x_f, x_eq_f, nI_add, pk_mul, bI_t, bI_f, Int32.toInt_toInt64, n_subI, x_add0, i_le_t, i_le_f, i_lt_t, i_lt_f, k_le_t, k_le_f, k_lt_t, k_lt_f, li_0, li_1, li_2, li_3, li_4, li_5, li_6, li_7, li_8, li_9, li_10, li_11, li_12, li_16, li_20, li_24, li_25, li_26, li_30, li_31, li_32, li_40, li_48, li_49, li_57, li_59, li_60, li_63, li_64, li_65, li_90, li_96, li_97, li_106, li_122, li_255, li_300, li_600, li_800, li_900, li_1850, li_2000, li_2010, li_2040, li_2801, li_3300, li_4161, li_9999, li_10163, li_16500, li_16800, li_17100, li_18350, li_18510, li_18540, li_65536, li_100000, li_999999, li_1000000, li_2147483647, im_1, im_8, ll_0, ll_1, ll_2, ll_3, ll_4, ll_6, ll_16, ll_20, ll_40, ll_63, ll_800, ll_9999, jm_same, jm_ob, jm_ok, jm_il, jm_li, jm_lsame, jm_lob, jm_lok, Nat.reduceAdd, Nat.reduceMul, Nat.zero_add, Nat.add_zero, Nat.mul_zero, Nat.zero_mul, e_mw_isSmall, e_mw_isDigit, e_mw_isDigit0, e_mw_isGreat, e_xs_isSmall, e_xs_isFigure, e_xs_isGreat, e_mw_isLetter, e_xs_isLetter, e_isBlank, e_xs_isBlank, e_isFrom, e_isIn]
      exact hQ _ _ (hR0.drp _)
/-- bytes come to the tape -/
def lyB (x : Int32) (q : Nat) : Int32 := (x >>> (nI q &&& nI 31)).toInt8.toInt32.toInt8.toInt32
def ly (x : Int32) (t : Nat) (tp : Nat → Int32) : Nat → Int32 := up (up (up (up tp t (lyB x 24)) (t + 1) (lyB x 16)) (t + 2) (lyB x 8)) (t + 3) (lyB x 0)
def xTp (a : Nat → Nat) (u0 v : XS) (tp : Nat → Int32) (t : Nat) : Prop :=
  xi v (a 0) 3 = nI t ∧ (∀ k, k < 900 → xi v (a 1) k = tp k) ∧ (∀ b k, ¬ (b = a 0 ∧ k = 3) → b ≠ a 1 → xi v b k = xi u0 b k) ∧ (∀ b k, xl v b k = xl u0 b k) ∧ ∀ b k, xr v b k = xr u0 b k
def mTp (m0 m : MS) (tp : Nat → Int32) (t : Nat) : Prop :=
  jm_i m 0 9 = nI t ∧ (∀ k, k < 900 → jm_i m 5 k = tp k) ∧ (∀ b k, ¬ (b = 0 ∧ k = 9) → b ≠ 5 → jm_i m b k = jm_i m0 b k) ∧ ∀ b k, jm_l m b k = jm_l m0 b k
theorem m24 : nI 24 + iM8 = nI 16 := by decide
theorem m16 : nI 16 + iM8 = nI 8 := by decide
theorem m8 : nI 8 + iM8 = nI 0 := by decide
theorem m0_8 : nI 0 + iM8 = iM8 := by decide
theorem m8_lt : (iM8 < nI 0) = True := eq_true (by decide)
set_option maxHeartbeats 4000000 in
theorem x_lay {u0 : XS} {x : Int32} {tp : Nat → Int32} {t : Nat} {P : XS → Prop} (k0 : K (a 0) = (1, 0)) (k1 : K (a 1) = (3, 900)) (p2 : xr u0 (a 0) 2 = some (a 1)) (o0 : ow (a 0) = 0) (o1 : ow (a 1) = 1) (ht : t + 4 ≤ 900) (hX : xTp a u0 u tp t) (hP : ∀ v, xTp a u0 v (ly x t tp) (t + 4) → P v) : xw0_lay (a 0) x K u P := by
  have one : ∀ f q v tp t, q ≤ 24 → t < 900 → xTp a u0 v tp t → (∀ v2, xTp a u0 v2 (up tp t (lyB x q)) (t + 1) → xw0_lay_L3 P K (a 0) x f (nI q + iM8) v2) → xw0_lay_L3 P K (a 0) x (f + 1) (nI q) v := by
    intro f q v tp t hq ht hX ih
    obtain ⟨h3, h1, hi, hl, hr⟩ := hX
    have p2' : xr v (a 0) 2 = some (a 1) := by rw [hr, p2]
    have n10 : a 1 ≠ a 0 := fun e => by rw [e] at o1; omega
    have ih2 := ih (xsi (xsi v (a 1) t (lyB x q)) (a 0) 3 (nI (t + 1))) ⟨xi_same, fun k hk => ?_, fun b k h1 h2 => ?_, fun b k => ?_, fun b k => ?_⟩
    · unfold xw0_lay_L3 xw0_lay_L3_S
      simp (disch := omega) only [k0, p2', k1, h3, forall_eq, forall_eq', exists_eq_left, exists_eq_left', true_and, and_true, true_implies, false_implies, not_true_eq_false, not_false_eq_true, Prod.mk.injEq, Option.some.injEq, reduceCtorEq, and_self, implies_true, eq_self, Classical.not_not, and_false, false_and, ite_true, ite_false, reduceIte, bI_0, or_false, false_or, or_true, true_or, or_self, if_true, if_false, n_le_t, n_le_f, n_lt_t, n_lt_f, n_eq_t, n_eq_f, n_toInt, n_cl, n_vp, n_eqM, M_eqn, n_leM, n_ltM, M_len, M_ltn, M_add, n_sub, iM_toInt, x_lt_t, x_lt_f, x_le_t, x_le_f, lt_x_t, lt_x_f, le_x_t, le_x_f, x_eq_f, nI_add, pk_mul, bI_t, bI_f, Int32.toInt_toInt64, n_subI, x_add0, i_le_t, i_le_f, i_lt_t, i_lt_f, k_le_t, k_le_f, k_lt_t, k_lt_f, li_0, li_1, li_2, li_3, li_4, li_5, li_6, li_7, li_8, li_9, li_10, li_11, li_12, li_16, li_20, li_24, li_25, li_26, li_30, li_31, li_32, li_40, li_48, li_49, li_57, li_59, li_60, li_63, li_64, li_65, li_90, li_96, li_97, li_106, li_122, li_255, li_300, li_600, li_800, li_900, li_1850, li_2000, li_2010, li_2040, li_2801, li_3300, li_4161, li_9999, li_10163, li_16500, li_16800, li_17100, li_18350, li_18510, li_18540, li_65536, li_100000, li_999999, li_1000000, li_2147483647, im_1, im_8, ll_0, ll_1, ll_2, ll_3, ll_4, ll_6, ll_16, ll_20, ll_40, ll_63, ll_800, ll_9999, xi_same, xi_oa ow, xi_ok, xi_r, xi_l, xl_i, xl_r, xr_i, xr_l, xr_same, xr_oa ow, xr_ok, xl_same, xl_oa ow, xl_ok, Nat.reduceAdd, Nat.reduceMul, Nat.zero_add, Nat.add_zero, Nat.mul_zero, Nat.zero_mul, e_mw_isSmall, e_mw_isDigit, e_mw_isDigit0, e_mw_isGreat, e_xs_isSmall, e_xs_isFigure, e_xs_isGreat, e_mw_isLetter, e_xs_isLetter, e_isBlank, e_xs_isBlank, e_isFrom, e_isIn]
      unfold lyB at ih2
      exact ih2
    · rw [xi_oa ow (by omega)]
      by_cases z : k = t
      · subst z; rw [xi_same, up_s]
      · rw [xi_ok z, up_n z, h1 k hk]
    · rw [← hi b k h1 h2]
      simp [xi, xsi, h1, h2]
    · exact hl b k
    · exact hr b k
  unfold xw0_lay
  simp (disch := omega) only [forall_eq, forall_eq', exists_eq_left, exists_eq_left', true_and, and_true, true_implies, false_implies, not_true_eq_false, not_false_eq_true, Prod.mk.injEq, Option.some.injEq, reduceCtorEq, and_self, implies_true, eq_self, Classical.not_not, and_false, false_and, ite_true, ite_false, reduceIte, bI_0, or_false, false_or, or_true, true_or, or_self, if_true, if_false, n_le_t, n_le_f, n_lt_t, n_lt_f, n_eq_t, n_eq_f, n_toInt, n_cl, n_vp, n_eqM, M_eqn, n_leM, n_ltM, M_len, M_ltn, M_add, n_sub, iM_toInt, x_lt_t, x_lt_f, x_le_t, x_le_f, lt_x_t, lt_x_f, le_x_t, le_x_f, x_eq_f, nI_add, pk_mul, bI_t, bI_f, Int32.toInt_toInt64, n_subI, x_add0, i_le_t, i_le_f, i_lt_t, i_lt_f, k_le_t, k_le_f, k_lt_t, k_lt_f, li_0, li_1, li_2, li_3, li_4, li_5, li_6, li_7, li_8, li_9, li_10, li_11, li_12, li_16, li_20, li_24, li_25, li_26, li_30, li_31, li_32, li_40, li_48, li_49, li_57, li_59, li_60, li_63, li_64, li_65, li_90, li_96, li_97, li_106, li_122, li_255, li_300, li_600, li_800, li_900, li_1850, li_2000, li_2010, li_2040, li_2801, li_3300, li_4161, li_9999, li_10163, li_16500, li_16800, li_17100, li_18350, li_18510, li_18540, li_65536, li_100000, li_999999, li_1000000, li_2147483647, im_1, im_8, ll_0, ll_1, ll_2, ll_3, ll_4, ll_6, ll_16, ll_20, ll_40, ll_63, ll_800, ll_9999, jm_same, jm_ob, jm_ok, jm_il, jm_li, jm_lsame, jm_lob, jm_lok, Nat.reduceAdd, Nat.reduceMul, Nat.zero_add, Nat.add_zero, Nat.mul_zero, Nat.zero_mul, e_mw_isSmall, e_mw_isDigit, e_mw_isDigit0, e_mw_isGreat, e_xs_isSmall, e_xs_isFigure, e_xs_isGreat, e_mw_isLetter, e_xs_isLetter, e_isBlank, e_xs_isBlank, e_isFrom, e_isIn]
  refine ⟨5, one 4 24 u tp t (by omega) (by omega) hX (fun v1 h1 => ?_)⟩
  rw [m24]
  refine one 3 16 v1 _ _ (by omega) (by omega) h1 (fun v2 h2 => ?_)
  rw [m16]
  refine one 2 8 v2 _ _ (by omega) (by omega) h2 (fun v3 h3 => ?_)
  rw [m8]
  refine one 1 0 v3 _ _ (by omega) (by omega) h3 (fun v4 h4 => ?_)
  rw [m0_8]
  unfold xw0_lay_L3 xw0_lay_L3_S
  simp (disch := omega) only [m8_lt, forall_eq, forall_eq', exists_eq_left, exists_eq_left', true_and, and_true, true_implies, false_implies, not_true_eq_false, not_false_eq_true, Prod.mk.injEq, Option.some.injEq, reduceCtorEq, and_self, implies_true, eq_self, Classical.not_not, and_false, false_and, ite_true, ite_false, reduceIte, bI_0, or_false, false_or, or_true, true_or, or_self, if_true, if_false, n_le_t, n_le_f, n_lt_t, n_lt_f, n_eq_t, n_eq_f, n_toInt, n_cl, n_vp, n_eqM, M_eqn, n_leM, n_ltM, M_len, M_ltn, M_add, n_sub, iM_toInt, x_lt_t, x_lt_f, x_le_t, x_le_f, lt_x_t, lt_x_f, le_x_t, le_x_f, x_eq_f, nI_add, pk_mul, bI_t, bI_f, Int32.toInt_toInt64, n_subI, x_add0, i_le_t, i_le_f, i_lt_t, i_lt_f, k_le_t, k_le_f, k_lt_t, k_lt_f, li_0, li_1, li_2, li_3, li_4, li_5, li_6, li_7, li_8, li_9, li_10, li_11, li_12, li_16, li_20, li_24, li_25, li_26, li_30, li_31, li_32, li_40, li_48, li_49, li_57, li_59, li_60, li_63, li_64, li_65, li_90, li_96, li_97, li_106, li_122, li_255, li_300, li_600, li_800, li_900, li_1850, li_2000, li_2010, li_2040, li_2801, li_3300, li_4161, li_9999, li_10163, li_16500, li_16800, li_17100, li_18350, li_18510, li_18540, li_65536, li_100000, li_999999, li_1000000, li_2147483647, im_1, im_8, ll_0, ll_1, ll_2, ll_3, ll_4, ll_6, ll_16, ll_20, ll_40, ll_63, ll_800, ll_9999, jm_same, jm_ob, jm_ok, jm_il, jm_li, jm_lsame, jm_lob, jm_lok, Nat.reduceAdd, Nat.reduceMul, Nat.zero_add, Nat.add_zero, Nat.mul_zero, Nat.zero_mul, e_mw_isSmall, e_mw_isDigit, e_mw_isDigit0, e_mw_isGreat, e_xs_isSmall, e_xs_isFigure, e_xs_isGreat, e_mw_isLetter, e_xs_isLetter, e_isBlank, e_xs_isBlank, e_isFrom, e_isIn]
  exact hP v4 h4
set_option maxHeartbeats 4000000 in
theorem m_four {m0 : MS} {x : Int32} {tp : Nat → Int32} {t : Nat} {P : MS → Prop} (ht : t + 4 ≤ 900) (hX : mTp m0 m tp t) (hP : ∀ v, mTp m0 v (ly x t tp) (t + 4) → P v) : mw_four x m P := by
  have one : ∀ f q v tp t, q ≤ 24 → t < 900 → mTp m0 v tp t → (∀ v2, mTp m0 v2 (up tp t (lyB x q)) (t + 1) → mw_four_L3 P x f (nI q + iM8) v2) → mw_four_L3 P x (f + 1) (nI q) v := by
    intro f q v tp t hq ht hX ih
    obtain ⟨h3, h1, hi, hl⟩ := hX
    have ih2 := ih (jm_s (jm_s v 5 t (lyB x q)) 0 9 (nI (t + 1))) ⟨jm_same, fun k hk => ?_, fun b k h1 h2 => ?_, fun b k => ?_⟩
    · unfold mw_four_L3 mw_four_L3_S
      simp (disch := omega) only [h3, forall_eq, forall_eq', exists_eq_left, exists_eq_left', true_and, and_true, true_implies, false_implies, not_true_eq_false, not_false_eq_true, Prod.mk.injEq, Option.some.injEq, reduceCtorEq, and_self, implies_true, eq_self, Classical.not_not, and_false, false_and, ite_true, ite_false, reduceIte, bI_0, or_false, false_or, or_true, true_or, or_self, if_true, if_false, n_le_t, n_le_f, n_lt_t, n_lt_f, n_eq_t, n_eq_f, n_toInt, n_cl, n_vp, n_eqM, M_eqn, n_leM, n_ltM, M_len, M_ltn, M_add, n_sub, iM_toInt, x_lt_t, x_lt_f, x_le_t, x_le_f, lt_x_t, lt_x_f, le_x_t, le_x_f, x_eq_f, nI_add, pk_mul, bI_t, bI_f, Int32.toInt_toInt64, n_subI, x_add0, i_le_t, i_le_f, i_lt_t, i_lt_f, k_le_t, k_le_f, k_lt_t, k_lt_f, li_0, li_1, li_2, li_3, li_4, li_5, li_6, li_7, li_8, li_9, li_10, li_11, li_12, li_16, li_20, li_24, li_25, li_26, li_30, li_31, li_32, li_40, li_48, li_49, li_57, li_59, li_60, li_63, li_64, li_65, li_90, li_96, li_97, li_106, li_122, li_255, li_300, li_600, li_800, li_900, li_1850, li_2000, li_2010, li_2040, li_2801, li_3300, li_4161, li_9999, li_10163, li_16500, li_16800, li_17100, li_18350, li_18510, li_18540, li_65536, li_100000, li_999999, li_1000000, li_2147483647, im_1, im_8, ll_0, ll_1, ll_2, ll_3, ll_4, ll_6, ll_16, ll_20, ll_40, ll_63, ll_800, ll_9999, jm_same, jm_ob, jm_ok, jm_il, jm_li, jm_lsame, jm_lob, jm_lok, Nat.reduceAdd, Nat.reduceMul, Nat.zero_add, Nat.add_zero, Nat.mul_zero, Nat.zero_mul, e_mw_isSmall, e_mw_isDigit, e_mw_isDigit0, e_mw_isGreat, e_xs_isSmall, e_xs_isFigure, e_xs_isGreat, e_mw_isLetter, e_xs_isLetter, e_isBlank, e_xs_isBlank, e_isFrom, e_isIn]
      unfold lyB at ih2
      exact ih2
    · rw [jm_ob (by omega)]
      by_cases z : k = t
      · subst z; rw [jm_same, up_s]
      · rw [jm_ok z, up_n z, h1 k hk]
    · rw [← hi b k h1 h2]
      simp [jm_i, jm_s, h1, h2]
    · exact hl b k
  unfold mw_four
  simp (disch := omega) only [forall_eq, forall_eq', exists_eq_left, exists_eq_left', true_and, and_true, true_implies, false_implies, not_true_eq_false, not_false_eq_true, Prod.mk.injEq, Option.some.injEq, reduceCtorEq, and_self, implies_true, eq_self, Classical.not_not, and_false, false_and, ite_true, ite_false, reduceIte, bI_0, or_false, false_or, or_true, true_or, or_self, if_true, if_false, n_le_t, n_le_f, n_lt_t, n_lt_f, n_eq_t, n_eq_f, n_toInt, n_cl, n_vp, n_eqM, M_eqn, n_leM, n_ltM, M_len, M_ltn, M_add, n_sub, iM_toInt, x_lt_t, x_lt_f, x_le_t, x_le_f, lt_x_t, lt_x_f, le_x_t, le_x_f, x_eq_f, nI_add, pk_mul, bI_t, bI_f, Int32.toInt_toInt64, n_subI, x_add0, i_le_t, i_le_f, i_lt_t, i_lt_f, k_le_t, k_le_f, k_lt_t, k_lt_f, li_0, li_1, li_2, li_3, li_4, li_5, li_6, li_7, li_8, li_9, li_10, li_11, li_12, li_16, li_20, li_24, li_25, li_26, li_30, li_31, li_32, li_40, li_48, li_49, li_57, li_59, li_60, li_63, li_64, li_65, li_90, li_96, li_97, li_106, li_122, li_255, li_300, li_600, li_800, li_900, li_1850, li_2000, li_2010, li_2040, li_2801, li_3300, li_4161, li_9999, li_10163, li_16500, li_16800, li_17100, li_18350, li_18510, li_18540, li_65536, li_100000, li_999999, li_1000000, li_2147483647, im_1, im_8, ll_0, ll_1, ll_2, ll_3, ll_4, ll_6, ll_16, ll_20, ll_40, ll_63, ll_800, ll_9999, jm_same, jm_ob, jm_ok, jm_il, jm_li, jm_lsame, jm_lob, jm_lok, Nat.reduceAdd, Nat.reduceMul, Nat.zero_add, Nat.add_zero, Nat.mul_zero, Nat.zero_mul, e_mw_isSmall, e_mw_isDigit, e_mw_isDigit0, e_mw_isGreat, e_xs_isSmall, e_xs_isFigure, e_xs_isGreat, e_mw_isLetter, e_xs_isLetter, e_isBlank, e_xs_isBlank, e_isFrom, e_isIn]
  refine ⟨5, one 4 24 m tp t (by omega) (by omega) hX (fun v1 h1 => ?_)⟩
  rw [m24]
  refine one 3 16 v1 _ _ (by omega) (by omega) h1 (fun v2 h2 => ?_)
  rw [m16]
  refine one 2 8 v2 _ _ (by omega) (by omega) h2 (fun v3 h3 => ?_)
  rw [m8]
  refine one 1 0 v3 _ _ (by omega) (by omega) h3 (fun v4 h4 => ?_)
  rw [m0_8]
  unfold mw_four_L3 mw_four_L3_S
  simp (disch := omega) only [m8_lt, forall_eq, forall_eq', exists_eq_left, exists_eq_left', true_and, and_true, true_implies, false_implies, not_true_eq_false, not_false_eq_true, Prod.mk.injEq, Option.some.injEq, reduceCtorEq, and_self, implies_true, eq_self, Classical.not_not, and_false, false_and, ite_true, ite_false, reduceIte, bI_0, or_false, false_or, or_true, true_or, or_self, if_true, if_false, n_le_t, n_le_f, n_lt_t, n_lt_f, n_eq_t, n_eq_f, n_toInt, n_cl, n_vp, n_eqM, M_eqn, n_leM, n_ltM, M_len, M_ltn, M_add, n_sub, iM_toInt, x_lt_t, x_lt_f, x_le_t, x_le_f, lt_x_t, lt_x_f, le_x_t, le_x_f, x_eq_f, nI_add, pk_mul, bI_t, bI_f, Int32.toInt_toInt64, n_subI, x_add0, i_le_t, i_le_f, i_lt_t, i_lt_f, k_le_t, k_le_f, k_lt_t, k_lt_f, li_0, li_1, li_2, li_3, li_4, li_5, li_6, li_7, li_8, li_9, li_10, li_11, li_12, li_16, li_20, li_24, li_25, li_26, li_30, li_31, li_32, li_40, li_48, li_49, li_57, li_59, li_60, li_63, li_64, li_65, li_90, li_96, li_97, li_106, li_122, li_255, li_300, li_600, li_800, li_900, li_1850, li_2000, li_2010, li_2040, li_2801, li_3300, li_4161, li_9999, li_10163, li_16500, li_16800, li_17100, li_18350, li_18510, li_18540, li_65536, li_100000, li_999999, li_1000000, li_2147483647, im_1, im_8, ll_0, ll_1, ll_2, ll_3, ll_4, ll_6, ll_16, ll_20, ll_40, ll_63, ll_800, ll_9999, jm_same, jm_ob, jm_ok, jm_il, jm_li, jm_lsame, jm_lob, jm_lok, Nat.reduceAdd, Nat.reduceMul, Nat.zero_add, Nat.add_zero, Nat.mul_zero, Nat.zero_mul, e_mw_isSmall, e_mw_isDigit, e_mw_isDigit0, e_mw_isGreat, e_xs_isSmall, e_xs_isFigure, e_xs_isGreat, e_mw_isLetter, e_xs_isLetter, e_isBlank, e_xs_isBlank, e_isFrom, e_isIn]
  exact hP v4 h4
theorem lyB_r {x : Int32} {q : Nat} : inR (lyB x q) (-128) 127 := by
  unfold lyB inR
  have h1 := Int8.le_toInt ((x >>> (nI q &&& nI 31)).toInt8.toInt32.toInt8)
  have h2 := Int8.toInt_lt ((x >>> (nI q &&& nI 31)).toInt8.toInt32.toInt8)
  rw [Int8.toInt_toInt32]
  constructor
  · omega
  · omega
theorem ly_r {x : Int32} {t : Nat} {tp : Nat → Int32} (h : ∀ k, k < 900 → inR (tp k) (-128) 127) : ∀ k, k < 900 → inR (ly x t tp k) (-128) 127 := by
  intro k hk
  have one : ∀ (f : Nat → Int32) (j q : Nat), (∀ k, k < 900 → inR (f k) (-128) 127) → ∀ k, k < 900 → inR (up f j (lyB x q) k) (-128) 127 := by
    intro f j q hf k hk
    by_cases z : k = j
    · subst z; rw [up_s]; exact lyB_r
    · rw [up_n z]; exact hf k hk
  exact one _ _ _ (one _ _ _ (one _ _ _ (one _ _ _ h))) k hk
set_option maxHeartbeats 4000000 in
theorem s_feed (hR : Rep a K ow u m) (x1 x2 x3 x4 x5 : Int32) : ST a m (fun _ _ P => xw0_feed (a 0) x1 x2 x3 x4 x5 K u (fun r v => P r K v)) (mw_feed x1 x2 x3 x4 x5) := by
  intro mc ms P hmc hms hP
  have hR0 := hR
  have o3 : ow (a 3) = 3 := hR.1.2.1 3 (by omega)
  have o4 : ow (a 4) = 4 := hR.1.2.1 4 (by omega)
  have o1 : ow (a 1) = 1 := hR.1.2.1 1 (by omega)
  obtain ⟨⟨⟨k0, k1, k2, k3, k4, k5, k6, k7, k8, k9, k10, k11, k12, k13, k14, k15, k16, k17, k18, k19, k20⟩, hO, ⟨p0, p1, p2, p6, p10, p11, p14, p15, p16, p17, p18, p21, p22, p23, p24, p25⟩, ⟨t0, t1, t2, t3⟩⟩, ⟨⟨c3, tn, c3n, c3l⟩, c4, c5, c7, c8, c9, ctape, cfirst, cworn⟩, hTr, ⟨⟨⟨g0, g0l⟩, ⟨g1, g1l⟩, ⟨g2, g2l⟩, ⟨g3, g3l⟩, ⟨g4, g4a, g4b⟩, ⟨g5, g5a, g5b⟩, gru⟩, hWW, _, ⟨tb, ptb, ⟨ra, ktb, otb, pra, kra, ora, f1, f2, f3, f4, f5, f6, hru⟩⟩, cdr, hwr⟩, hMar, s, as, ps, hSet⟩ := hR
  have o0 : ow (a 0) = 0 := hO 0 (by omega)
  have o2 : ow (a 2) = 2 := hO 2 (by omega)
  clear hMar hSet hTr cfirst cworn gru hru hwr
  rw [c3n] at c3
  by_cases c : tn + 20 ≤ 900
  · have hX0 : xTp a u u (jm_i m 5) tn := ⟨c3, fun k hk => (ctape k hk).1, fun _ _ _ _ => rfl, fun _ _ => rfl, fun _ _ => rfl⟩
    have hM0 : mTp m m (jm_i m 5) tn := ⟨c3n, fun _ _ => rfl, fun _ _ _ _ => rfl, fun _ _ => rfl⟩
    simp (disch := omega) only [xw0_feed, c3, k0, xw0_isSet, xw0_whyNotSet, xw0_answer, xw0_table, xw0_isRule, xw0_at, xw0_isThere, xw15_lines, forall_eq, forall_eq', exists_eq_left, exists_eq_left', true_and, and_true, true_implies, false_implies, not_true_eq_false, not_false_eq_true, Prod.mk.injEq, Option.some.injEq, reduceCtorEq, and_self, implies_true, eq_self, Classical.not_not, and_false, false_and, ite_true, ite_false, reduceIte, bI_0, or_false, false_or, or_true, true_or, or_self, if_true, if_false, n_le_t, n_le_f, n_lt_t, n_lt_f, n_eq_t, n_eq_f, n_toInt, n_cl, n_vp, n_eqM, M_eqn, n_leM, n_ltM, M_len, M_ltn, M_add, n_sub, iM_toInt, x_lt_t, x_lt_f, x_le_t, x_le_f, lt_x_t, lt_x_f, le_x_t, le_x_f, x_eq_f, nI_add, pk_mul, bI_t, bI_f, Int32.toInt_toInt64, n_subI, x_add0, i_le_t, i_le_f, i_lt_t, i_lt_f, k_le_t, k_le_f, k_lt_t, k_lt_f, li_0, li_1, li_2, li_3, li_4, li_5, li_6, li_7, li_8, li_9, li_10, li_11, li_12, li_16, li_20, li_24, li_25, li_26, li_30, li_31, li_32, li_40, li_48, li_49, li_57, li_59, li_60, li_63, li_64, li_65, li_90, li_96, li_97, li_106, li_122, li_255, li_300, li_600, li_800, li_900, li_1850, li_2000, li_2010, li_2040, li_2801, li_3300, li_4161, li_9999, li_10163, li_16500, li_16800, li_17100, li_18350, li_18510, li_18540, li_65536, li_100000, li_999999, li_1000000, li_2147483647, im_1, im_8, ll_0, ll_1, ll_2, ll_3, ll_4, ll_6, ll_16, ll_20, ll_40, ll_63, ll_800, ll_9999, xi_same, xi_oa ow, xi_ok, xi_r, xi_l, xl_i, xl_r, xr_i, xr_l, xr_same, xr_oa ow, xr_ok, xl_same, xl_oa ow, xl_ok, Nat.reduceAdd, Nat.reduceMul, Nat.zero_add, Nat.add_zero, Nat.mul_zero, Nat.zero_mul, e_mw_isSmall, e_mw_isDigit, e_mw_isDigit0, e_mw_isGreat, e_xs_isSmall, e_xs_isFigure, e_xs_isGreat, e_mw_isLetter, e_xs_isLetter, e_isBlank, e_xs_isBlank, e_isFrom, e_isIn]
    refine x_lay k0 k1 p2 o0 o1 (by omega) hX0 (fun v1 h1 => x_lay k0 k1 p2 o0 o1 (by omega) h1 (fun v2 h2 => x_lay k0 k1 p2 o0 o1 (by omega) h2 (fun v3 h3 => x_lay k0 k1 p2 o0 o1 (by omega) h3 (fun v4 h4 => x_lay k0 k1 p2 o0 o1 (by omega) h4 (fun v5 h5 => ?_)))))
    rw [h5.1]
    refine hP _ _ _ (fun Q hQ => ?_)
    simp (disch := omega) only [mw_feed, c3n, mw_isSet, mw_refuse, mw_gives, mw_is, mw_isRule, mw_ruleAt, mw_cellsOf, mw_cellAt, sl_of (m := m), forall_eq, forall_eq', exists_eq_left, exists_eq_left', true_and, and_true, true_implies, false_implies, not_true_eq_false, not_false_eq_true, Prod.mk.injEq, Option.some.injEq, reduceCtorEq, and_self, implies_true, eq_self, Classical.not_not, and_false, false_and, ite_true, ite_false, reduceIte, bI_0, or_false, false_or, or_true, true_or, or_self, if_true, if_false, n_le_t, n_le_f, n_lt_t, n_lt_f, n_eq_t, n_eq_f, n_toInt, n_cl, n_vp, n_eqM, M_eqn, n_leM, n_ltM, M_len, M_ltn, M_add, n_sub, iM_toInt, x_lt_t, x_lt_f, x_le_t, x_le_f, lt_x_t, lt_x_f, le_x_t, le_x_f, x_eq_f, nI_add, pk_mul, bI_t, bI_f, Int32.toInt_toInt64, n_subI, x_add0, i_le_t, i_le_f, i_lt_t, i_lt_f, k_le_t, k_le_f, k_lt_t, k_lt_f, li_0, li_1, li_2, li_3, li_4, li_5, li_6, li_7, li_8, li_9, li_10, li_11, li_12, li_16, li_20, li_24, li_25, li_26, li_30, li_31, li_32, li_40, li_48, li_49, li_57, li_59, li_60, li_63, li_64, li_65, li_90, li_96, li_97, li_106, li_122, li_255, li_300, li_600, li_800, li_900, li_1850, li_2000, li_2010, li_2040, li_2801, li_3300, li_4161, li_9999, li_10163, li_16500, li_16800, li_17100, li_18350, li_18510, li_18540, li_65536, li_100000, li_999999, li_1000000, li_2147483647, im_1, im_8, ll_0, ll_1, ll_2, ll_3, ll_4, ll_6, ll_16, ll_20, ll_40, ll_63, ll_800, ll_9999, jm_same, jm_ob, jm_ok, jm_il, jm_li, jm_lsame, jm_lob, jm_lok, Nat.reduceAdd, Nat.reduceMul, Nat.zero_add, Nat.add_zero, Nat.mul_zero, Nat.zero_mul, e_mw_isSmall, e_mw_isDigit, e_mw_isDigit0, e_mw_isGreat, e_xs_isSmall, e_xs_isFigure, e_xs_isGreat, e_mw_isLetter, e_xs_isLetter, e_isBlank, e_xs_isBlank, e_isFrom, e_isIn]
    refine m_four (by omega) hM0 (fun n1 g1 => m_four (by omega) g1 (fun n2 g2 => m_four (by omega) g2 (fun n3 g3 => m_four (by omega) g3 (fun n4 g4 => m_four (by omega) g4 (fun n5 g5 => ?_)))))
    rw [g5.1]
    have hr := ly_r (x := x5) (t := tn + 4 + 4 + 4 + 4) (ly_r (x := x4) (t := tn + 4 + 4 + 4) (ly_r (x := x3) (t := tn + 4 + 4) (ly_r (x := x2) (t := tn + 4) (ly_r (x := x1) (t := tn) (fun k hk => (ctape k hk).2)))))
    obtain ⟨a3, a1, ai, al, ar⟩ := h5
    obtain ⟨b3, b1, bi, bl⟩ := g5
    have ne : ∀ k, k ≠ 3 → xi v5 (a 0) k = xi u (a 0) k := fun k hk => ai _ k (fun z => hk z.2) (fun z => by rw [← z] at o1; omega)
    have nf : ∀ b k, ow b ≠ 0 → ow b ≠ 1 → xi v5 b k = xi u b k := fun b k h0 h1 => ai b k (fun z => h0 (by rw [z.1, o0])) (fun z => h1 (by rw [z, o1]))
    have mf : ∀ b k, b ≠ 0 → b ≠ 5 → jm_i n5 b k = jm_i m b k := fun b k h0 h5 => bi b k (fun z => h0 z.1) h5
    have mg : ∀ k, k ≠ 9 → jm_i n5 0 k = jm_i m 0 k := fun k hk => bi 0 k (fun z => hk z.2) (by omega)
    refine hQ ow _ (hR0.sca (rSca.of hR0.2.1 ⟨_, a3, b3, by omega⟩ (by rw [ne _ (by omega), mg _ (by omega), c4]) (by rw [ne _ (by omega), mg _ (by omega), c5]) (by rw [ne _ (by omega), mg _ (by omega), c7]) (by rw [al, bl, c8]) (by rw [al, bl, c9]) (fun k hk => by rw [a1 k hk, b1 k hk]; exact ⟨rfl, hr k hk⟩) (ne _ (by omega)) (ne _ (by omega)) (ne _ (by omega)) (fun k => nf _ k (by omega) (by omega)) (fun k => nf _ k (by omega) (by omega)) (mg _ (by omega)) (mg _ (by omega)) (mg _ (by omega)) (fun k => mf _ k (by omega) (by omega)) (fun k => mf _ k (by omega) (by omega)))
      (ne _ (by omega)) (fun b k h0 h1 _ _ _ => nf b k h0 h1) (fun b k _ => al b k) ar (fun k _ => mf _ k (by omega) (by omega)) (fun k => mf _ k (by omega) (by omega)) (fun k => mf _ k (by omega) (by omega)) (fun k => bl _ k) (mg _ (by omega)))
  · simp (disch := omega) only [xw0_feed, c3, k0, xw0_isSet, xw0_whyNotSet, xw0_answer, xw0_table, xw0_isRule, xw0_at, xw0_isThere, xw15_lines, forall_eq, forall_eq', exists_eq_left, exists_eq_left', true_and, and_true, true_implies, false_implies, not_true_eq_false, not_false_eq_true, Prod.mk.injEq, Option.some.injEq, reduceCtorEq, and_self, implies_true, eq_self, Classical.not_not, and_false, false_and, ite_true, ite_false, reduceIte, bI_0, or_false, false_or, or_true, true_or, or_self, if_true, if_false, n_le_t, n_le_f, n_lt_t, n_lt_f, n_eq_t, n_eq_f, n_toInt, n_cl, n_vp, n_eqM, M_eqn, n_leM, n_ltM, M_len, M_ltn, M_add, n_sub, iM_toInt, x_lt_t, x_lt_f, x_le_t, x_le_f, lt_x_t, lt_x_f, le_x_t, le_x_f, x_eq_f, nI_add, pk_mul, bI_t, bI_f, Int32.toInt_toInt64, n_subI, x_add0, i_le_t, i_le_f, i_lt_t, i_lt_f, k_le_t, k_le_f, k_lt_t, k_lt_f, li_0, li_1, li_2, li_3, li_4, li_5, li_6, li_7, li_8, li_9, li_10, li_11, li_12, li_16, li_20, li_24, li_25, li_26, li_30, li_31, li_32, li_40, li_48, li_49, li_57, li_59, li_60, li_63, li_64, li_65, li_90, li_96, li_97, li_106, li_122, li_255, li_300, li_600, li_800, li_900, li_1850, li_2000, li_2010, li_2040, li_2801, li_3300, li_4161, li_9999, li_10163, li_16500, li_16800, li_17100, li_18350, li_18510, li_18540, li_65536, li_100000, li_999999, li_1000000, li_2147483647, im_1, im_8, ll_0, ll_1, ll_2, ll_3, ll_4, ll_6, ll_16, ll_20, ll_40, ll_63, ll_800, ll_9999, xi_same, xi_oa ow, xi_ok, xi_r, xi_l, xl_i, xl_r, xr_i, xr_l, xr_same, xr_oa ow, xr_ok, xl_same, xl_oa ow, xl_ok, Nat.reduceAdd, Nat.reduceMul, Nat.zero_add, Nat.add_zero, Nat.mul_zero, Nat.zero_mul, e_mw_isSmall, e_mw_isDigit, e_mw_isDigit0, e_mw_isGreat, e_xs_isSmall, e_xs_isFigure, e_xs_isGreat, e_mw_isLetter, e_xs_isLetter, e_isBlank, e_xs_isBlank, e_isFrom, e_isIn]
    refine hP _ _ _ (fun Q hQ => ?_)
    simp (disch := omega) only [mw_feed, c3n, mw_isSet, mw_refuse, mw_gives, mw_is, mw_isRule, mw_ruleAt, mw_cellsOf, mw_cellAt, sl_of (m := m), forall_eq, forall_eq', exists_eq_left, exists_eq_left', true_and, and_true, true_implies, false_implies, not_true_eq_false, not_false_eq_true, Prod.mk.injEq, Option.some.injEq, reduceCtorEq, and_self, implies_true, eq_self, Classical.not_not, and_false, false_and, ite_true, ite_false, reduceIte, bI_0, or_false, false_or, or_true, true_or, or_self, if_true, if_false, n_le_t, n_le_f, n_lt_t, n_lt_f, n_eq_t, n_eq_f, n_toInt, n_cl, n_vp, n_eqM, M_eqn, n_leM, n_ltM, M_len, M_ltn, M_add, n_sub, iM_toInt, x_lt_t, x_lt_f, x_le_t, x_le_f, lt_x_t, lt_x_f, le_x_t, le_x_f, x_eq_f, nI_add, pk_mul, bI_t, bI_f, Int32.toInt_toInt64, n_subI, x_add0, i_le_t, i_le_f, i_lt_t, i_lt_f, k_le_t, k_le_f, k_lt_t, k_lt_f, li_0, li_1, li_2, li_3, li_4, li_5, li_6, li_7, li_8, li_9, li_10, li_11, li_12, li_16, li_20, li_24, li_25, li_26, li_30, li_31, li_32, li_40, li_48, li_49, li_57, li_59, li_60, li_63, li_64, li_65, li_90, li_96, li_97, li_106, li_122, li_255, li_300, li_600, li_800, li_900, li_1850, li_2000, li_2010, li_2040, li_2801, li_3300, li_4161, li_9999, li_10163, li_16500, li_16800, li_17100, li_18350, li_18510, li_18540, li_65536, li_100000, li_999999, li_1000000, li_2147483647, im_1, im_8, ll_0, ll_1, ll_2, ll_3, ll_4, ll_6, ll_16, ll_20, ll_40, ll_63, ll_800, ll_9999, jm_same, jm_ob, jm_ok, jm_il, jm_li, jm_lsame, jm_lob, jm_lok, Nat.reduceAdd, Nat.reduceMul, Nat.zero_add, Nat.add_zero, Nat.mul_zero, Nat.zero_mul, e_mw_isSmall, e_mw_isDigit, e_mw_isDigit0, e_mw_isGreat, e_xs_isSmall, e_xs_isFigure, e_xs_isGreat, e_mw_isLetter, e_xs_isLetter, e_isBlank, e_xs_isBlank, e_isFrom, e_isIn]
    exact hQ ow _ hR0
end XBR
