/-! PLAIN LAW: mark, back -/
set_option linter.unusedVariables false
section XBT
variable {a : Nat → Nat} {K K2 : XK} {ow ow2 : Nat → Nat} {u v : XS} {s t : Nat} {as : Nat → Nat} {h : Nat → Int32} {m n : MS}
theorem x_markB {q o mc ms c0 s0 : Nat} {P : Int32 → XK → XS → Prop} (hR : Rep a K ow u m) (hq : q < 3) (e12 : xi u (a 0) 12 = nI q) (po : xr u (a 10) q = some o) (ko : K o = (1, 4)) (oo : ow o = 70 + q)
    (hP : ∀ v, (∀ b k, b ≠ o → ¬ (b = a 0 ∧ k = 12) → xi v b k = xi u b k) → (∀ b k, b ≠ o → xr v b k = xr u b k) → (∀ b k, xl v b k = xl u b k) → xi v (a 0) 12 = nI (q + 1) → xr v o 0 = xr u (a 2) 0 → xi v o 1 = xi u (a 2) 1 → xr v o 2 = xr u (a 2) 2 → P (nI (q + 1)) K v) : xw0_mark_B54 P mc ms (a 0) K u c0 s0 := by
  have k0 := hR.1.1.1
  have k2 : K (a 2) = (1, 4) := hR.1.1.2.2.1
  have k10 : K (a 10) = (8, 3) := hR.1.1.2.2.2.2.2.2.2.2.2.2.1
  have o0 : ow (a 0) = 0 := hR.1.2.1 0 (by omega)
  have o2 : ow (a 2) = 2 := hR.1.2.1 2 (by omega)
  have p10 : xr u (a 0) 10 = some (a 2) := hR.1.2.2.1.2.2.2.2.1
  have p11 : xr u (a 0) 11 = some (a 10) := hR.1.2.2.1.2.2.2.2.2.1
  have h0o : a 0 ≠ o := fun z => by rw [z] at o0; omega
  have h2o : a 2 ≠ o := fun z => by rw [z] at o2; omega
  unfold xw0_mark_B54
  rw [e12, n_cl (by omega)]
  refine ⟨k0, a 10, p11, 3, k10, vp_in_nI hq (by omega), a 2, p10, o, po, ko, x_be k2 ko h2o (fun v h1 h2 h3 h4 h5 u77 e77 => ?_)⟩
  subst e77
  rw [(h1 _ 12 h0o).1, e12, xi_same]
  rw [show nI q + (1 : Int32) = nI (q + 1) from nI_add q 1]
  refine hP _ (fun b k hb hk => ?_) (fun b k hb => (h1 b k hb).2) (fun b k => h2 b k) xi_same h3 ?_ h5
  · rw [← (h1 b k hb).1]
    simp only [xi, xsi, if_neg hk]
  · rw [← h4]
    have : ¬ (o = a 0 ∧ 1 = 12) := fun z => by omega
    simp only [xi, xsi, if_neg this]
set_option maxHeartbeats 8000000 in
theorem s_mark (hR : Rep a K ow u m) : ST a m (fun mc ms P => xw0_mark (a 0) K u mc ms P) mw_mark := by
  intro mc ms P hmc hms hP
  have hR0 := hR
  obtain ⟨⟨⟨k0, k1, k2, k3, k4, k5, k6, k7, k8, k9, k10, k11, k12, k13, k14, k15, k16, k17, k18, k19, k20⟩, hO, ⟨p0, p1, p2, p6, p10, p11, p14, p15, p16, p17, p18, p21, p22, p23, p24, p25⟩, ⟨t0, t1, t2, t3⟩⟩, ⟨⟨c3, tn, c3n, c3l⟩, c4, c5, c7, c8, c9, ctape, cfirst, cworn⟩, hTr, ⟨⟨⟨g0, g0l⟩, ⟨g1, g1l⟩, ⟨g2, g2l⟩, ⟨g3, g3l⟩, ⟨g4, g4a, g4b⟩, ⟨g5, g5a, g5b⟩, gru⟩, hWW, _, ⟨tb, ptb, ⟨ra, ktb, otb, pra, kra, ora, f1, f2, f3, f4, f5, f6, hru⟩⟩, cdr, hwr⟩, hMar, s, as, ps, hSet⟩ := hR
  have o0 : ow (a 0) = 0 := hO 0 (by omega)
  have o2 : ow (a 2) = 2 := hO 2 (by omega)
  obtain ⟨q, q1, q2, q3, q4⟩ := hMar
  clear hSet hTr cfirst cworn ctape gru hru hwr
  by_cases c : q = 3
  · subst c
    simp (disch := omega) only [xw0_mark, xw0_mark_B14, k0, k2, k12, p0, p1, p2, p6, p10, p11, p14, p15, p16, p17, p18, p21, p22, p23, p24, p25, ptb, ktb, pra, kra, f1, f2, f3, f4, f5, f6, g0, g4, g5, cdr, q2, xw0_isSet, xw0_whyNotSet, xw0_answer, xw0_table, xw0_isRule, xw0_at, xw0_isThere, xw15_lines, forall_eq, forall_eq', exists_eq_left, exists_eq_left', true_and, and_true, true_implies, false_implies, not_true_eq_false, not_false_eq_true, Prod.mk.injEq, Option.some.injEq, reduceCtorEq, and_self, implies_true, eq_self, Classical.not_not, and_false, false_and, ite_true, ite_false, reduceIte, bI_0, or_false, false_or, or_true, true_or, or_self, if_true, if_false, n_le_t, n_le_f, n_lt_t, n_lt_f, n_eq_t, n_eq_f, n_toInt, n_cl, n_vp, n_eqM, M_eqn, n_leM, n_ltM, M_len, M_ltn, M_add, n_sub, iM_toInt, x_lt_t, x_lt_f, x_le_t, x_le_f, lt_x_t, lt_x_f, le_x_t, le_x_f, x_eq_f, nI_add, pk_mul, bI_t, bI_f, Int32.toInt_toInt64, n_subI, x_add0, i_le_t, i_le_f, i_lt_t, i_lt_f, k_le_t, k_le_f, k_lt_t, k_lt_f, li_0, li_1, li_2, li_3, li_4, li_5, li_6, li_7, li_8, li_9, li_10, li_11, li_12, li_16, li_20, li_24, li_25, li_26, li_30, li_31, li_32, li_40, li_48, li_49, li_57, li_59, li_60, li_63, li_64, li_65, li_90, li_96, li_97, li_106, li_122, li_255, li_300, li_600, li_800, li_900, li_1850, li_2000, li_2010, li_2040, li_2801, li_3300, li_4161, li_9999, li_10163, li_16500, li_16800, li_17100, li_18350, li_18510, li_18540, li_65536, li_100000, li_999999, li_1000000, li_2147483647, im_1, im_8, ll_0, ll_1, ll_2, ll_3, ll_4, ll_6, ll_16, ll_20, ll_40, ll_63, ll_800, ll_9999, xi_same, xi_oa ow, xi_ok, xi_r, xi_l, xl_i, xl_r, xr_i, xr_l, xr_same, xr_oa ow, xr_ok, xl_same, xl_oa ow, xl_ok, Nat.reduceAdd, Nat.reduceMul, Nat.zero_add, Nat.add_zero, Nat.mul_zero, Nat.zero_mul, e_mw_isSmall, e_mw_isDigit, e_mw_isDigit0, e_mw_isGreat, e_xs_isSmall, e_xs_isFigure, e_xs_isGreat, e_mw_isLetter, e_xs_isLetter, e_isBlank, e_xs_isBlank, e_isFrom, e_isIn]
    refine hP _ _ _ (fun Q hQ => ?_)
    simp (disch := omega) only [mw_mark, q3, mw_isSet, mw_refuse, mw_gives, mw_is, mw_isRule, mw_ruleAt, mw_cellsOf, mw_cellAt, sl_of (m := m), forall_eq, forall_eq', exists_eq_left, exists_eq_left', true_and, and_true, true_implies, false_implies, not_true_eq_false, not_false_eq_true, Prod.mk.injEq, Option.some.injEq, reduceCtorEq, and_self, implies_true, eq_self, Classical.not_not, and_false, false_and, ite_true, ite_false, reduceIte, bI_0, or_false, false_or, or_true, true_or, or_self, if_true, if_false, n_le_t, n_le_f, n_lt_t, n_lt_f, n_eq_t, n_eq_f, n_toInt, n_cl, n_vp, n_eqM, M_eqn, n_leM, n_ltM, M_len, M_ltn, M_add, n_sub, iM_toInt, x_lt_t, x_lt_f, x_le_t, x_le_f, lt_x_t, lt_x_f, le_x_t, le_x_f, x_eq_f, nI_add, pk_mul, bI_t, bI_f, Int32.toInt_toInt64, n_subI, x_add0, i_le_t, i_le_f, i_lt_t, i_lt_f, k_le_t, k_le_f, k_lt_t, k_lt_f, li_0, li_1, li_2, li_3, li_4, li_5, li_6, li_7, li_8, li_9, li_10, li_11, li_12, li_16, li_20, li_24, li_25, li_26, li_30, li_31, li_32, li_40, li_48, li_49, li_57, li_59, li_60, li_63, li_64, li_65, li_90, li_96, li_97, li_106, li_122, li_255, li_300, li_600, li_800, li_900, li_1850, li_2000, li_2010, li_2040, li_2801, li_3300, li_4161, li_9999, li_10163, li_16500, li_16800, li_17100, li_18350, li_18510, li_18540, li_65536, li_100000, li_999999, li_1000000, li_2147483647, im_1, im_8, ll_0, ll_1, ll_2, ll_3, ll_4, ll_6, ll_16, ll_20, ll_40, ll_63, ll_800, ll_9999, jm_same, jm_ob, jm_ok, jm_il, jm_li, jm_lsame, jm_lob, jm_lok, Nat.reduceAdd, Nat.reduceMul, Nat.zero_add, Nat.add_zero, Nat.mul_zero, Nat.zero_mul, e_mw_isSmall, e_mw_isDigit, e_mw_isDigit0, e_mw_isGreat, e_xs_isSmall, e_xs_isFigure, e_xs_isGreat, e_mw_isLetter, e_xs_isLetter, e_isBlank, e_xs_isBlank, e_isFrom, e_isIn]
    exact hQ _ _ (hR0.st _)
  · have hq : q < 3 := by omega
    have hR1 : Rep a K ow (xsi u (a 0) 7 (0 : Int32)) (jm_s m 0 1 (nI 0)) := hR0.st (nI 0)
    have e12 : xi (xsi u (a 0) 7 (0 : Int32)) (a 0) 12 = nI q := by rw [xi_ok (by omega), q2]
    have e7 : xi (xsi u (a 0) 7 (0 : Int32)) (a 0) 7 = 0 := xi_same
    have e10 : xr (xsi u (a 0) 7 (0 : Int32)) (a 10) q = xr u (a 10) q := rfl
    have p11' : xr (xsi u (a 0) 7 (0 : Int32)) (a 0) 11 = some (a 10) := p11
    have hne : ¬ nI q = (3 : Int32) := fun z => c ((nI_eq (by omega) (by omega)).mp (show nI q = nI 3 from z))
    -- how it ends
    have fin : ∀ o K2 ow2 v, Rep a K2 ow2 v (jm_s m 0 1 (nI 0)) → xi v (a 0) 12 = nI q → xr v (a 10) q = some o → K2 o = (1, 4) → ow2 o = 70 + q → ∀ c0 s0, xw0_mark_B54 P mc ms (a 0) K2 v c0 s0 := fun o K2 ow2 v hR2 g12 po ko oo c0 s0 => by
      refine x_markB hR2 hq g12 po ko oo (fun v2 h1 h2 h3 h4 h5 h6 h7 => hP _ _ _ (fun Q hQ => ?_))
      simp (disch := omega) only [mw_mark, q3, mw_isSet, mw_refuse, mw_gives, mw_is, mw_isRule, mw_ruleAt, mw_cellsOf, mw_cellAt, sl_of (m := m), forall_eq, forall_eq', exists_eq_left, exists_eq_left', true_and, and_true, true_implies, false_implies, not_true_eq_false, not_false_eq_true, Prod.mk.injEq, Option.some.injEq, reduceCtorEq, and_self, implies_true, eq_self, Classical.not_not, and_false, false_and, ite_true, ite_false, reduceIte, bI_0, or_false, false_or, or_true, true_or, or_self, if_true, if_false, n_le_t, n_le_f, n_lt_t, n_lt_f, n_eq_t, n_eq_f, n_toInt, n_cl, n_vp, n_eqM, M_eqn, n_leM, n_ltM, M_len, M_ltn, M_add, n_sub, iM_toInt, x_lt_t, x_lt_f, x_le_t, x_le_f, lt_x_t, lt_x_f, le_x_t, le_x_f, x_eq_f, nI_add, pk_mul, bI_t, bI_f, Int32.toInt_toInt64, n_subI, x_add0, i_le_t, i_le_f, i_lt_t, i_lt_f, k_le_t, k_le_f, k_lt_t, k_lt_f, li_0, li_1, li_2, li_3, li_4, li_5, li_6, li_7, li_8, li_9, li_10, li_11, li_12, li_16, li_20, li_24, li_25, li_26, li_30, li_31, li_32, li_40, li_48, li_49, li_57, li_59, li_60, li_63, li_64, li_65, li_90, li_96, li_97, li_106, li_122, li_255, li_300, li_600, li_800, li_900, li_1850, li_2000, li_2010, li_2040, li_2801, li_3300, li_4161, li_9999, li_10163, li_16500, li_16800, li_17100, li_18350, li_18510, li_18540, li_65536, li_100000, li_999999, li_1000000, li_2147483647, im_1, im_8, ll_0, ll_1, ll_2, ll_3, ll_4, ll_6, ll_16, ll_20, ll_40, ll_63, ll_800, ll_9999, jm_same, jm_ob, jm_ok, jm_il, jm_li, jm_lsame, jm_lob, jm_lok, Nat.reduceAdd, Nat.reduceMul, Nat.zero_add, Nat.add_zero, Nat.mul_zero, Nat.zero_mul, e_mw_isSmall, e_mw_isDigit, e_mw_isDigit0, e_mw_isGreat, e_xs_isSmall, e_xs_isFigure, e_xs_isGreat, e_mw_isLetter, e_xs_isLetter, e_isBlank, e_xs_isBlank, e_isFrom, e_isIn]
      refine m_copies (i := 0) (j := q + 1) (by omega) (by omega) (by omega) (fun n g1 g2 g3 => ?_)
      have g45 : jm_i n 0 45 = nI (q + 1) := by rw [g1 _ _ (by omega), jm_same]
      simp (disch := omega) only [mw_gives, g45, forall_eq, forall_eq', exists_eq_left, exists_eq_left', true_and, and_true, true_implies, false_implies, not_true_eq_false, not_false_eq_true, Prod.mk.injEq, Option.some.injEq, reduceCtorEq, and_self, implies_true, eq_self, Classical.not_not, and_false, false_and, ite_true, ite_false, reduceIte, bI_0, or_false, false_or, or_true, true_or, or_self, if_true, if_false, n_le_t, n_le_f, n_lt_t, n_lt_f, n_eq_t, n_eq_f, n_toInt, n_cl, n_vp, n_eqM, M_eqn, n_leM, n_ltM, M_len, M_ltn, M_add, n_sub, iM_toInt, x_lt_t, x_lt_f, x_le_t, x_le_f, lt_x_t, lt_x_f, le_x_t, le_x_f, x_eq_f, nI_add, pk_mul, bI_t, bI_f, Int32.toInt_toInt64, n_subI, x_add0, i_le_t, i_le_f, i_lt_t, i_lt_f, k_le_t, k_le_f, k_lt_t, k_lt_f, li_0, li_1, li_2, li_3, li_4, li_5, li_6, li_7, li_8, li_9, li_10, li_11, li_12, li_16, li_20, li_24, li_25, li_26, li_30, li_31, li_32, li_40, li_48, li_49, li_57, li_59, li_60, li_63, li_64, li_65, li_90, li_96, li_97, li_106, li_122, li_255, li_300, li_600, li_800, li_900, li_1850, li_2000, li_2010, li_2040, li_2801, li_3300, li_4161, li_9999, li_10163, li_16500, li_16800, li_17100, li_18350, li_18510, li_18540, li_65536, li_100000, li_999999, li_1000000, li_2147483647, im_1, im_8, ll_0, ll_1, ll_2, ll_3, ll_4, ll_6, ll_16, ll_20, ll_40, ll_63, ll_800, ll_9999, jm_same, jm_ob, jm_ok, jm_il, jm_li, jm_lsame, jm_lob, jm_lok, Nat.reduceAdd, Nat.reduceMul, Nat.zero_add, Nat.add_zero, Nat.mul_zero, Nat.zero_mul, e_mw_isSmall, e_mw_isDigit, e_mw_isDigit0, e_mw_isGreat, e_xs_isSmall, e_xs_isFigure, e_xs_isGreat, e_mw_isLetter, e_xs_isLetter, e_isBlank, e_xs_isBlank, e_isFrom, e_isIn]
      refine hQ ow2 _ (hR2.mrk (n := jm_s n 0 1 (nI 0)) hq (by rw [jm_ok (by omega)]; exact q3) po h1 h2 h3 h4 h5 h6 h7 (fun b k y1 y2 => ?_) (fun b k => ?_) (by rw [jm_ok (by omega)]; exact g45) ?_)
      · by_cases z : b = 0 ∧ k = 1
        · obtain ⟨rfl, rfl⟩ := z
          rw [jm_same, jm_same]
        · have e1 : jm_i (jm_s n 0 1 (nI 0)) b k = jm_i n b k := by simp only [jm_i, jm_s, if_neg z]
          have e2 : jm_i (jm_s m 0 1 (nI 0)) b k = jm_i m b k := by simp only [jm_i, jm_s, if_neg z]
          rw [e1, e2, g1 b k y1]
          simp only [jm_i, jm_s, if_neg y2]
      · exact g2 b k
      · rw [sl_so (by omega), sl_so (by omega), g3, sl_so (by omega)]
    unfold xw0_mark
    refine ⟨k0, fun _ => ?_, fun z => absurd (by rw [q2] at z; exact z) hne⟩
    unfold xw0_mark_B14
    refine ⟨k0, fun u1 e14 => ⟨k0, fun _ => ?_, fun z => ?_⟩⟩
    · rw [← e14] at hR1 e12 e7 e10 p11'
      refine ⟨a 10, p11', 3, k10, by rw [e12]; exact vp_in_nI hq (by omega), fun hnn => ?_, fun hnn => ?_⟩
      · rw [e12, n_cl (by omega), e10] at hnn
        rcases q4 q hq with ⟨_, hn⟩ | ⟨o, po, ko, oo, _⟩
        · exact absurd hn hnn
        · exact fin o K ow u1 hR1 e12 (by rw [e10, po]) ko oo 0 0
      · rw [e12, n_cl (by omega)] at hnn
        refine ⟨by omega, by omega, fun o K46 u46 hb e1 e2 => ⟨10, 100, by omega, by omega, ?_⟩⟩
        have A1 : AE K u1 K46 u46 := by rw [e1, e2]; exact AE.refl.nw hb
        have ko1 : K46 o = (1, 4) := by rw [e1]; unfold xup; rw [if_pos rfl]
        unfold xw4_init
        refine ⟨by omega, by omega, fun b5 K5 u5 hb5 e3 e4 => ⟨5, 50, by omega, by omega, ?_⟩⟩
        have A2 : AE K u1 K5 u5 := by rw [e3, e4]; exact A1.nw hb5
        have n5 : o ≠ b5 := fun z => by rw [← z, ko1] at hb5; simp at hb5
        have ko2 : K5 o = (1, 4) := by rw [e3]; unfold xup; rw [if_neg n5]; exact ko1
        have kb5 : K5 b5 = (1, 5) := by rw [e3]; unfold xup; rw [if_pos rfl]
        unfold xw5_init
        refine ⟨by omega, by omega, fun b7 K7 u7 hb7 e5 e6 => ?_⟩
        have A3 : AE K u1 K7 u7 := by rw [e5, e6]; exact A2.nw hb7
        have n7 : o ≠ b7 := fun z => by rw [← z, ko2] at hb7; simp at hb7
        have n57 : b5 ≠ b7 := fun z => by rw [← z, kb5] at hb7; simp at hb7
        have ko3 : K7 o = (1, 4) := by rw [e5]; unfold xup; rw [if_neg n7]; exact ko2
        have kb7 : K7 b5 = (1, 5) := by rw [e5]; unfold xup; rw [if_neg n57]; exact kb5
        have f5 : (K b5).1 = 0 := A1.free hb5
        refine ⟨kb7, fun u10 f1 u15 f2 u20 f3 u25 f4 u31 f6 u37 f7 => ⟨ko3, fun u12 f8 => ?_⟩⟩
        have A4 : AE K u1 K7 u12 := by
          rw [f8, f7, f6, f4, f3, f2, f1]
          exact ((((((A3.wr f5).wi f5).wi f5).wi f5).wi f5).wi f5).wr hb
        have z10 : (K (a 10)).1 ≠ 0 := by rw [k10]; simp
        have hR2 : Rep a K7 (fun c => if (K c).1 ≠ 0 then ow c else 70 + q) u12 (jm_s m 0 1 (nI 0)) := hR1.ae A4 (fun b hb => if_pos hb)
        have oo : (fun c => if (K c).1 ≠ 0 then ow c else 70 + q) o = 70 + q := if_neg (by omega)
        have hn2 : xr u12 (a 10) q = none := by rw [((A4 (a 10) z10).2 q).2.2]; exact hnn
        have hR3 := hR2.sto hq hn2 ko3 oo (fun c hc hc3 => by
          rw [jm_ok (by omega), q3] at hc
          have := (nI_eq (by omega) (by omega)).mp hc
          omega)
        have kk10 : K7 (a 10) = (8, 3) := by rw [(A4 (a 10) z10).1, k10]
        refine ⟨a 10, p11', 3, kk10, by rw [e12]; exact vp_in_nI hq (by omega), fun u53 e53 => ?_⟩
        rw [e12, n_cl (by omega)] at e53
        subst e53
        have z0 : (K (a 0)).1 ≠ 0 := by rw [k0]; simp
        exact fin o K7 _ _ hR3 (by show xi u12 (a 0) 12 = _; rw [((A4 (a 0) z0).2 12).1, e12]) xr_same ko3 oo _ _
    · rw [e14, xi_same] at z
      exact absurd (Int32.le_refl _) z
/-- back to a mark -/
theorem Rep.bck {o q : Nat} (hR : Rep a K ow u m) (hq : q < 3) (h45 : jm_i m 0 45 = nI (q + 1)) (po : xr u (a 10) q = some o) (hv : ∀ b k, b ≠ a 2 → ¬ (b = a 0 ∧ k = 12) → xi v b k = xi u b k) (hvr : ∀ b k, b ≠ a 2 → xr v b k = xr u b k) (hvl : ∀ b k, xl v b k = xl u b k)
    (e12 : xi v (a 0) 12 = nI q) (e0 : xr v (a 2) 0 = xr u o 0) (e1 : xi v (a 2) 1 = xi u o 1) (e2 : xr v (a 2) 2 = xr u o 2)
    (hn : ∀ b k, ¬ (b = 1 ∧ k < 3300) → ¬ (b = 0 ∧ k = 45) → jm_i n b k = jm_i m b k) (hnl : ∀ b k, jm_l n b k = jm_l m b k) (n45 : jm_i n 0 45 = nI q) (hsl : sl n 0 = sl m (q + 1)) : Rep a K ow v n := by
  obtain ⟨hSt, hc, hy, hh, ⟨c, c1, c2, c3, c4⟩, s, as, hs1, hs2⟩ := hR
  have hcq : c = q + 1 := by
    rw [c3] at h45
    exact (nI_eq (by omega) (by omega)).mp h45
  subst hcq
  have hO := hSt.2.1
  have o0 : ow (a 0) = 0 := hO 0 (by omega)
  have o1 : ow (a 1) = 1 := hO 1 (by omega)
  have o2 : ow (a 2) = 2 := hO 2 (by omega)
  have o3 : ow (a 3) = 3 := hO 3 (by omega)
  have o4 : ow (a 4) = 4 := hO 4 (by omega)
  have o5 : ow (a 5) = 5 := hO 5 (by omega)
  have o10 : ow (a 10) = 10 := hO 10 (by omega)
  have k2 : K (a 2) = (1, 4) := hSt.1.2.2.1
  have os := hs2.2.1
  have hho : rHou K ow u o (sl m (q + 1)) := by
    rcases c4 q hq with ⟨x, _⟩ | ⟨p, p1, _, _, p4⟩
    · omega
    · rw [po] at p1; injection p1 with p1; subst p1; exact p4 (by omega)
  have hr : ∀ b k, ow b ≠ 2 → xr v b k = xr u b k := fun b k hb => hvr b k (fun z => hb (by rw [z]; exact o2))
  have hi : ∀ b k, ow b ≠ 2 → ow b ≠ 0 → xi v b k = xi u b k := fun b k hb h0 => hv b k (fun z => hb (by rw [z]; exact o2)) (fun z => h0 (by rw [z.1]; exact o0))
  have h0i : ∀ k, k ≠ 12 → xi v (a 0) k = xi u (a 0) k := fun k hk => hv _ k (fun z => by rw [z] at o0; omega) (fun z => hk z.2)
  have hF : Fz K ow u K ow v := ⟨fun _ _ => ⟨rfl, rfl⟩, fun b k _ ho => ⟨hi b k (by omega) (by omega), hr b k (by omega)⟩⟩
  have es : ∀ i, i < 3 → sl n (i + 1) = sl m (i + 1) := fun i h1 => by
    funext k
    unfold sl
    by_cases hk : k < 3300
    · simp only [hk, if_true]; exact hn _ _ (by omega) (by omega)
    · simp only [hk, if_false]
  have mm : ∀ b k, b ≠ 1 → ¬ (b = 0 ∧ k = 45) → jm_i n b k = jm_i m b k := fun b k h1 h2 => hn b k (by omega) h2
  refine ⟨hSt.g (fun _ _ => ⟨rfl, rfl⟩) (fun k _ _ => hr _ k (by omega)) (fun k _ => hr _ k (by omega)), ?_, fun t ht => ?_, ?_, ⟨q, by omega, e12, n45, fun i hi3 => ?_⟩, s, as, by rw [hr _ _ (by omega), hs1], ?_⟩
  · obtain ⟨⟨d1, dq, d2, d3⟩, d4, d5, d6, d7, d8, d9, _, _⟩ := id hc
    exact rSca.of hc ⟨dq, by rw [h0i _ (by omega), d1, d2], by rw [mm _ _ (by omega) (by omega), d2], d3⟩ (by rw [h0i _ (by omega), mm _ _ (by omega) (by omega), d4]) (by rw [h0i _ (by omega), mm _ _ (by omega) (by omega), d5]) (by rw [h0i _ (by omega), mm _ _ (by omega) (by omega), d6]) (by rw [hvl, hnl, d7]) (by rw [hvl, hnl, d8])
      (fun k hk => by rw [hi _ _ (by omega) (by omega), mm _ _ (by omega) (by omega)]; exact d9 k hk) (h0i _ (by omega)) (h0i _ (by omega)) (h0i _ (by omega)) (fun k => hi _ k (by omega) (by omega)) (fun k => hi _ k (by omega) (by omega)) (mm _ _ (by omega) (by omega)) (mm _ _ (by omega) (by omega)) (mm _ _ (by omega) (by omega)) (fun k => mm _ k (by omega) (by omega)) (fun k => mm _ k (by omega) (by omega))
  · exact (hy t ht).g (hr _ _ (by have := hO (6 + t) (by omega); omega)) (fun b hb hob => ⟨rfl, rfl, fun k => ⟨hi b k (by omega) (by omega), hvl b k⟩⟩) (mm _ _ (by omega) (by omega)) (mm _ _ (by omega) (by omega)) (fun k _ => hnl _ _)
  · rw [hsl]
    obtain ⟨x1, x2, x3, ⟨tb, x4, x5⟩, x6, x7⟩ := hho
    refine ⟨x1, x2, k2, ⟨tb, by rw [e0, x4], x5.fz hF⟩, by rw [e1, x6], ?_⟩
    rcases x7 with ⟨y1, y2⟩ | ⟨y1, w, y2, y3⟩
    · exact Or.inl ⟨y1, by rw [e2, y2]⟩
    · exact Or.inr ⟨y1, w, by rw [e2, y2], y3.fz hF⟩
  · rw [hr _ _ (by omega), es i hi3]
    rcases c4 i hi3 with ⟨x1, x2⟩ | ⟨p, p1, p2, p3, p4⟩
    · exact Or.inl ⟨by omega, x2⟩
    · exact Or.inr ⟨p, p1, p2, p3, fun hin => (p4 (by omega)).fz hF (hr _ _ (by omega)) (hi _ _ (by omega) (by omega)) (hr _ _ (by omega))⟩
  · unfold rSet at hs2 ⊢
    have es : ∀ k, xr v s k = xr u s k := fun k => hr s k (by omega)
    simp only [es]
    exact hs2
set_option maxHeartbeats 8000000 in
theorem s_back (hR : Rep a K ow u m) : ST a m (fun _ _ P => xw0_back (a 0) K u (fun r v => P r K v)) mw_back := by
  intro mc ms P hmc hms hP
  have hR0 := hR
  obtain ⟨⟨⟨k0, k1, k2, k3, k4, k5, k6, k7, k8, k9, k10, k11, k12, k13, k14, k15, k16, k17, k18, k19, k20⟩, hO, ⟨p0, p1, p2, p6, p10, p11, p14, p15, p16, p17, p18, p21, p22, p23, p24, p25⟩, ⟨t0, t1, t2, t3⟩⟩, ⟨⟨c3, tn, c3n, c3l⟩, c4, c5, c7, c8, c9, ctape, cfirst, cworn⟩, hTr, ⟨⟨⟨g0, g0l⟩, ⟨g1, g1l⟩, ⟨g2, g2l⟩, ⟨g3, g3l⟩, ⟨g4, g4a, g4b⟩, ⟨g5, g5a, g5b⟩, gru⟩, hWW, _, ⟨tb, ptb, ⟨ra, ktb, otb, pra, kra, ora, f1, f2, f3, f4, f5, f6, hru⟩⟩, cdr, hwr⟩, hMar, s, as, ps, hSet⟩ := hR
  have o0 : ow (a 0) = 0 := hO 0 (by omega)
  have o2 : ow (a 2) = 2 := hO 2 (by omega)
  obtain ⟨q, q1, q2, q3, q4⟩ := hMar
  clear hSet hTr cfirst cworn ctape gru hru hwr
  cases q with
  | zero =>
    simp (disch := omega) only [xw0_back, xw0_back_B14, k0, k2, k12, p0, p1, p2, p6, p10, p11, p14, p15, p16, p17, p18, p21, p22, p23, p24, p25, ptb, ktb, pra, kra, f1, f2, f3, f4, f5, f6, g0, g4, g5, cdr, q2, xw0_isSet, xw0_whyNotSet, xw0_answer, xw0_table, xw0_isRule, xw0_at, xw0_isThere, xw15_lines, forall_eq, forall_eq', exists_eq_left, exists_eq_left', true_and, and_true, true_implies, false_implies, not_true_eq_false, not_false_eq_true, Prod.mk.injEq, Option.some.injEq, reduceCtorEq, and_self, implies_true, eq_self, Classical.not_not, and_false, false_and, ite_true, ite_false, reduceIte, bI_0, or_false, false_or, or_true, true_or, or_self, if_true, if_false, n_le_t, n_le_f, n_lt_t, n_lt_f, n_eq_t, n_eq_f, n_toInt, n_cl, n_vp, n_eqM, M_eqn, n_leM, n_ltM, M_len, M_ltn, M_add, n_sub, iM_toInt, x_lt_t, x_lt_f, x_le_t, x_le_f, lt_x_t, lt_x_f, le_x_t, le_x_f, x_eq_f, nI_add, pk_mul, bI_t, bI_f, Int32.toInt_toInt64, n_subI, x_add0, i_le_t, i_le_f, i_lt_t, i_lt_f, k_le_t, k_le_f, k_lt_t, k_lt_f, li_0, li_1, li_2, li_3, li_4, li_5, li_6, li_7, li_8, li_9, li_10, li_11, li_12, li_16, li_20, li_24, li_25, li_26, li_30, li_31, li_32, li_40, li_48, li_49, li_57, li_59, li_60, li_63, li_64, li_65, li_90, li_96, li_97, li_106, li_122, li_255, li_300, li_600, li_800, li_900, li_1850, li_2000, li_2010, li_2040, li_2801, li_3300, li_4161, li_9999, li_10163, li_16500, li_16800, li_17100, li_18350, li_18510, li_18540, li_65536, li_100000, li_999999, li_1000000, li_2147483647, im_1, im_8, ll_0, ll_1, ll_2, ll_3, ll_4, ll_6, ll_16, ll_20, ll_40, ll_63, ll_800, ll_9999, xi_same, xi_oa ow, xi_ok, xi_r, xi_l, xl_i, xl_r, xr_i, xr_l, xr_same, xr_oa ow, xr_ok, xl_same, xl_oa ow, xl_ok, Nat.reduceAdd, Nat.reduceMul, Nat.zero_add, Nat.add_zero, Nat.mul_zero, Nat.zero_mul, e_mw_isSmall, e_mw_isDigit, e_mw_isDigit0, e_mw_isGreat, e_xs_isSmall, e_xs_isFigure, e_xs_isGreat, e_mw_isLetter, e_xs_isLetter, e_isBlank, e_xs_isBlank, e_isFrom, e_isIn]
    refine hP _ _ _ (fun Q hQ => ?_)
    simp (disch := omega) only [mw_back, q3, mw_isSet, mw_refuse, mw_gives, mw_is, mw_isRule, mw_ruleAt, mw_cellsOf, mw_cellAt, sl_of (m := m), forall_eq, forall_eq', exists_eq_left, exists_eq_left', true_and, and_true, true_implies, false_implies, not_true_eq_false, not_false_eq_true, Prod.mk.injEq, Option.some.injEq, reduceCtorEq, and_self, implies_true, eq_self, Classical.not_not, and_false, false_and, ite_true, ite_false, reduceIte, bI_0, or_false, false_or, or_true, true_or, or_self, if_true, if_false, n_le_t, n_le_f, n_lt_t, n_lt_f, n_eq_t, n_eq_f, n_toInt, n_cl, n_vp, n_eqM, M_eqn, n_leM, n_ltM, M_len, M_ltn, M_add, n_sub, iM_toInt, x_lt_t, x_lt_f, x_le_t, x_le_f, lt_x_t, lt_x_f, le_x_t, le_x_f, x_eq_f, nI_add, pk_mul, bI_t, bI_f, Int32.toInt_toInt64, n_subI, x_add0, i_le_t, i_le_f, i_lt_t, i_lt_f, k_le_t, k_le_f, k_lt_t, k_lt_f, li_0, li_1, li_2, li_3, li_4, li_5, li_6, li_7, li_8, li_9, li_10, li_11, li_12, li_16, li_20, li_24, li_25, li_26, li_30, li_31, li_32, li_40, li_48, li_49, li_57, li_59, li_60, li_63, li_64, li_65, li_90, li_96, li_97, li_106, li_122, li_255, li_300, li_600, li_800, li_900, li_1850, li_2000, li_2010, li_2040, li_2801, li_3300, li_4161, li_9999, li_10163, li_16500, li_16800, li_17100, li_18350, li_18510, li_18540, li_65536, li_100000, li_999999, li_1000000, li_2147483647, im_1, im_8, ll_0, ll_1, ll_2, ll_3, ll_4, ll_6, ll_16, ll_20, ll_40, ll_63, ll_800, ll_9999, jm_same, jm_ob, jm_ok, jm_il, jm_li, jm_lsame, jm_lob, jm_lok, Nat.reduceAdd, Nat.reduceMul, Nat.zero_add, Nat.add_zero, Nat.mul_zero, Nat.zero_mul, e_mw_isSmall, e_mw_isDigit, e_mw_isDigit0, e_mw_isGreat, e_xs_isSmall, e_xs_isFigure, e_xs_isGreat, e_mw_isLetter, e_xs_isLetter, e_isBlank, e_xs_isBlank, e_isFrom, e_isIn]
    exact hQ _ _ (hR0.st _)
  | succ q =>
    have hq : q < 3 := by omega
    obtain ⟨o, po, ko, oo⟩ : ∃ o, xr u (a 10) q = some o ∧ K o = (1, 4) ∧ ow o = 70 + q := by
      rcases q4 q hq with ⟨x, _⟩ | ⟨o, po, ko, oo, _⟩
      · omega
      · exact ⟨o, po, ko, oo⟩
    have h2o : o ≠ a 2 := fun z => by rw [z] at oo; omega
    have h02 : a 0 ≠ a 2 := fun z => by rw [z] at o0; omega
    have h0o : o ≠ a 0 := fun z => by rw [z] at oo; omega
    have hR1 : Rep a K ow (xsi u (a 0) 7 (nI 0)) (jm_s m 0 1 (nI 0)) := hR0.st (nI 0)
    simp (disch := omega) only [xw0_back, xw0_back_B14, k0, k2, k12, p0, p1, p2, p6, p10, p11, p14, p15, p16, p17, p18, p21, p22, p23, p24, p25, ptb, ktb, pra, kra, f1, f2, f3, f4, f5, f6, g0, g4, g5, cdr, q2, k10, po, Nat.add_sub_cancel, xw0_isSet, xw0_whyNotSet, xw0_answer, xw0_table, xw0_isRule, xw0_at, xw0_isThere, xw15_lines, forall_eq, forall_eq', exists_eq_left, exists_eq_left', true_and, and_true, true_implies, false_implies, not_true_eq_false, not_false_eq_true, Prod.mk.injEq, Option.some.injEq, reduceCtorEq, and_self, implies_true, eq_self, Classical.not_not, and_false, false_and, ite_true, ite_false, reduceIte, bI_0, or_false, false_or, or_true, true_or, or_self, if_true, if_false, n_le_t, n_le_f, n_lt_t, n_lt_f, n_eq_t, n_eq_f, n_toInt, n_cl, n_vp, n_eqM, M_eqn, n_leM, n_ltM, M_len, M_ltn, M_add, n_sub, iM_toInt, x_lt_t, x_lt_f, x_le_t, x_le_f, lt_x_t, lt_x_f, le_x_t, le_x_f, x_eq_f, nI_add, pk_mul, bI_t, bI_f, Int32.toInt_toInt64, n_subI, x_add0, i_le_t, i_le_f, i_lt_t, i_lt_f, k_le_t, k_le_f, k_lt_t, k_lt_f, li_0, li_1, li_2, li_3, li_4, li_5, li_6, li_7, li_8, li_9, li_10, li_11, li_12, li_16, li_20, li_24, li_25, li_26, li_30, li_31, li_32, li_40, li_48, li_49, li_57, li_59, li_60, li_63, li_64, li_65, li_90, li_96, li_97, li_106, li_122, li_255, li_300, li_600, li_800, li_900, li_1850, li_2000, li_2010, li_2040, li_2801, li_3300, li_4161, li_9999, li_10163, li_16500, li_16800, li_17100, li_18350, li_18510, li_18540, li_65536, li_100000, li_999999, li_1000000, li_2147483647, im_1, im_8, ll_0, ll_1, ll_2, ll_3, ll_4, ll_6, ll_16, ll_20, ll_40, ll_63, ll_800, ll_9999, xi_same, xi_oa ow, xi_ok, xi_r, xi_l, xl_i, xl_r, xr_i, xr_l, xr_same, xr_oa ow, xr_ok, xl_same, xl_oa ow, xl_ok, Nat.reduceAdd, Nat.reduceMul, Nat.zero_add, Nat.add_zero, Nat.mul_zero, Nat.zero_mul, e_mw_isSmall, e_mw_isDigit, e_mw_isDigit0, e_mw_isGreat, e_xs_isSmall, e_xs_isFigure, e_xs_isGreat, e_mw_isLetter, e_xs_isLetter, e_isBlank, e_xs_isBlank, e_isFrom, e_isIn]
    refine x_be ko k2 h2o (fun v h1 h2 h3 h4 h5 => ?_)
    have e12 : xi v (a 0) 12 = nI q := by
      rw [(h1 _ 12 h02).1, xi_same]
      try rw [Nat.add_sub_cancel]
    rw [e12]
    refine hP _ _ _ (fun Q hQ => ?_)
    simp (disch := omega) only [mw_back, q3, mw_isSet, mw_refuse, mw_gives, mw_is, mw_isRule, mw_ruleAt, mw_cellsOf, mw_cellAt, sl_of (m := m), forall_eq, forall_eq', exists_eq_left, exists_eq_left', true_and, and_true, true_implies, false_implies, not_true_eq_false, not_false_eq_true, Prod.mk.injEq, Option.some.injEq, reduceCtorEq, and_self, implies_true, eq_self, Classical.not_not, and_false, false_and, ite_true, ite_false, reduceIte, bI_0, or_false, false_or, or_true, true_or, or_self, if_true, if_false, n_le_t, n_le_f, n_lt_t, n_lt_f, n_eq_t, n_eq_f, n_toInt, n_cl, n_vp, n_eqM, M_eqn, n_leM, n_ltM, M_len, M_ltn, M_add, n_sub, iM_toInt, x_lt_t, x_lt_f, x_le_t, x_le_f, lt_x_t, lt_x_f, le_x_t, le_x_f, x_eq_f, nI_add, pk_mul, bI_t, bI_f, Int32.toInt_toInt64, n_subI, x_add0, i_le_t, i_le_f, i_lt_t, i_lt_f, k_le_t, k_le_f, k_lt_t, k_lt_f, li_0, li_1, li_2, li_3, li_4, li_5, li_6, li_7, li_8, li_9, li_10, li_11, li_12, li_16, li_20, li_24, li_25, li_26, li_30, li_31, li_32, li_40, li_48, li_49, li_57, li_59, li_60, li_63, li_64, li_65, li_90, li_96, li_97, li_106, li_122, li_255, li_300, li_600, li_800, li_900, li_1850, li_2000, li_2010, li_2040, li_2801, li_3300, li_4161, li_9999, li_10163, li_16500, li_16800, li_17100, li_18350, li_18510, li_18540, li_65536, li_100000, li_999999, li_1000000, li_2147483647, im_1, im_8, ll_0, ll_1, ll_2, ll_3, ll_4, ll_6, ll_16, ll_20, ll_40, ll_63, ll_800, ll_9999, jm_same, jm_ob, jm_ok, jm_il, jm_li, jm_lsame, jm_lob, jm_lok, Nat.reduceAdd, Nat.reduceMul, Nat.zero_add, Nat.add_zero, Nat.mul_zero, Nat.zero_mul, e_mw_isSmall, e_mw_isDigit, e_mw_isDigit0, e_mw_isGreat, e_xs_isSmall, e_xs_isFigure, e_xs_isGreat, e_mw_isLetter, e_xs_isLetter, e_isBlank, e_xs_isBlank, e_isFrom, e_isIn]
    refine m_copies (i := q + 1) (j := 0) (by omega) (by omega) (by omega) (fun n g1 g2 g3 => ?_)
    have g45 : jm_i n 0 45 = nI (q + 1) := by rw [g1 _ _ (by omega), q3]
    simp (disch := omega) only [mw_gives, g45, Nat.add_sub_cancel, forall_eq, forall_eq', exists_eq_left, exists_eq_left', true_and, and_true, true_implies, false_implies, not_true_eq_false, not_false_eq_true, Prod.mk.injEq, Option.some.injEq, reduceCtorEq, and_self, implies_true, eq_self, Classical.not_not, and_false, false_and, ite_true, ite_false, reduceIte, bI_0, or_false, false_or, or_true, true_or, or_self, if_true, if_false, n_le_t, n_le_f, n_lt_t, n_lt_f, n_eq_t, n_eq_f, n_toInt, n_cl, n_vp, n_eqM, M_eqn, n_leM, n_ltM, M_len, M_ltn, M_add, n_sub, iM_toInt, x_lt_t, x_lt_f, x_le_t, x_le_f, lt_x_t, lt_x_f, le_x_t, le_x_f, x_eq_f, nI_add, pk_mul, bI_t, bI_f, Int32.toInt_toInt64, n_subI, x_add0, i_le_t, i_le_f, i_lt_t, i_lt_f, k_le_t, k_le_f, k_lt_t, k_lt_f, li_0, li_1, li_2, li_3, li_4, li_5, li_6, li_7, li_8, li_9, li_10, li_11, li_12, li_16, li_20, li_24, li_25, li_26, li_30, li_31, li_32, li_40, li_48, li_49, li_57, li_59, li_60, li_63, li_64, li_65, li_90, li_96, li_97, li_106, li_122, li_255, li_300, li_600, li_800, li_900, li_1850, li_2000, li_2010, li_2040, li_2801, li_3300, li_4161, li_9999, li_10163, li_16500, li_16800, li_17100, li_18350, li_18510, li_18540, li_65536, li_100000, li_999999, li_1000000, li_2147483647, im_1, im_8, ll_0, ll_1, ll_2, ll_3, ll_4, ll_6, ll_16, ll_20, ll_40, ll_63, ll_800, ll_9999, jm_same, jm_ob, jm_ok, jm_il, jm_li, jm_lsame, jm_lob, jm_lok, Nat.reduceAdd, Nat.reduceMul, Nat.zero_add, Nat.add_zero, Nat.mul_zero, Nat.zero_mul, e_mw_isSmall, e_mw_isDigit, e_mw_isDigit0, e_mw_isGreat, e_xs_isSmall, e_xs_isFigure, e_xs_isGreat, e_mw_isLetter, e_xs_isLetter, e_isBlank, e_xs_isBlank, e_isFrom, e_isIn]
    refine hQ ow _ (hR1.bck (n := jm_s (jm_s n 0 45 (nI q)) 0 1 (nI 0)) hq (by rw [jm_ok (by omega)]; exact q3) po (fun b k hb hk => ?_) (fun b k hb => (h1 b k hb).2) (fun b k => h2 b k) e12 h3 ?_ h5 (fun b k y1 y2 => ?_) (fun b k => g2 b k) (by rw [jm_ok (by omega), jm_same]) ?_)
    · rw [(h1 b k hb).1]
      simp only [xi, xsi, if_neg hk]
    · rw [h4]
      have : ¬ (o = a 0 ∧ 1 = 12) := fun z => by omega
      simp only [xi, xsi, if_neg this]
    · by_cases z : b = 0 ∧ k = 1
      · obtain ⟨rfl, rfl⟩ := z
        rw [jm_same, jm_same]
      · have e1 : jm_i (jm_s (jm_s n 0 45 (nI q)) 0 1 (nI 0)) b k = jm_i n b k := by simp only [jm_i, jm_s, if_neg z, if_neg y2]
        have e2 : jm_i (jm_s m 0 1 (nI 0)) b k = jm_i m b k := by simp only [jm_i, jm_s, if_neg z]
        rw [e1, e2, g1 b k (by omega)]
    · rw [sl_so (by omega), sl_so (by omega), g3, sl_so (by omega)]
end XBT
