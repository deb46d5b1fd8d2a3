/-! PLAIN LAW: press, whole -/
set_option linter.unusedVariables false
section PRP
variable {a : Nat → Nat} {K K0 K2 : XK} {ow ow2 : Nat → Nat} {u v u0 : XS} {m w : MS} {b h : Nat → Int32} {n tb : Nat}
/-- the table and the reader are made -/
theorem x_pressS {mc ms : Nat} {P : XK → XS → Nat → Nat → Prop} (k0 : K (a 0) = (1, 0)) (p2 : xr u (a 0) 2 = some (a 1)) (k1 : K (a 1) = (3, 900)) (hb : ∀ k, k < n → xi u (a 1) k = b k) (hn : n ≤ 900)
    (hP : ∀ tb x0 K2 v, PRx a b n K u x0 tb (tldI 0 4) (tldI 0 5) emT (tkA b n 0) K2 v → P K2 v tb x0) :
    ∀ (tb : Nat) (K1 : XK) (u1 : XS), (K tb).1 = 0 → K1 = xup K tb (1, 5) → u1 = xz u tb → xw5_init tb K1 u1 1 24 (fun K17 u17 => ∀ (x0 : Nat) (K21 : XK) (u21 : XS), (K17 x0).1 = 0 → K21 = xup K17 x0 (1, 8) → u21 = xz u17 x0 → xw8_init x0 (a 0) (nI n) K21 u21 (fun u27 => P K21 u27 tb x0)) := by
  intro tb K1 u1 htb e1 e2
  subst e1 e2
  unfold xw5_init
  refine ⟨Nat.le_refl _, Nat.le_refl _, fun ra K7 u7 hra e1 e2 => ?_⟩
  have htr : tb ≠ ra := fun z => by rw [← z] at hra; unfold xup at hra; rw [if_pos rfl] at hra; cases hra
  subst e1 e2
  have k7t : xup (xup K tb (1, 5)) ra (7, 24) tb = (1, 5) := by unfold xup; rw [if_neg htr, if_pos rfl]
  have k7r : xup (xup K tb (1, 5)) ra (7, 24) ra = (7, 24) := by unfold xup; rw [if_pos rfl]
  have fra : (K ra).1 = 0 := by
    have := hra
    unfold xup at this
    rw [if_neg htr.symm] at this
    exact this
  refine ⟨k7t, fun u10 e10 u15 e15 u20 e20 u25 e25 u31 e31 u37 e37 => ?_⟩
  have A1 : AE K u (xup K tb (1, 5)) (xz u tb) := (AE.refl (K := K) (u := u)).gen htb (fun c hc k => xz_ne hc k)
  have A2 : AE K u (xup (xup K tb (1, 5)) ra (7, 24)) (xz (xz u tb) ra) := A1.gen hra (fun c hc k => xz_ne hc k)
  have ei : ∀ c, c ≠ tb → ∀ k, xi u37 c k = xi (xz (xz u tb) ra) c k := fun c hc k => by
    rw [e37, e31, e25, e20, e15, e10]
    simp [xi, xsi, xsr, hc]
  have er : ∀ c k, ¬ (c = tb ∧ k = 0) → xr u37 c k = xr (xz (xz u tb) ra) c k := fun c k hc => by
    rw [e37, e31, e25, e20, e15, e10]
    simp only [xr, xsi, xsr, if_neg hc]
  have el : ∀ c k, xl u37 c k = xl (xz (xz u tb) ra) c k := fun c k => by
    rw [e37, e31, e25, e20, e15, e10]
    rfl
  have A3 : AE K u (xup (xup K tb (1, 5)) ra (7, 24)) u37 := fun c hc => by
    have hn2 : c ≠ tb := fun z => by rw [z] at hc; exact hc htb
    obtain ⟨q1, q2⟩ := A2 c hc
    exact ⟨q1, fun k => ⟨by rw [ei c hn2]; exact (q2 k).1, by rw [el]; exact (q2 k).2.1, by rw [er c k (fun z => hn2 z.1)]; exact (q2 k).2.2⟩⟩
  have z1 : xi u37 tb 1 = nI 0 := by
    rw [e37, e31, e25, e20, e15, e10]
    simp [xi, xsi, xsr, xz, htr]
    rfl
  have T7 : rTab (xup (xup K tb (1, 5)) ra (7, 24)) (owF K) u37 tb emT := by
    refine ⟨ra, k7t, owF_n htb, by rw [e37, e31, e25, e20, e15, e10]; simp [xr, xsi, xsr], k7r, owF_n fra, z1, by rw [e37, e31, e25, e20, e15]; simp [xi, xsi]; rfl, by rw [e37, e31, e25, e20]; simp [xi, xsi]; rfl, by rw [e37, e31, e25]; simp [xi, xsi]; rfl, by rw [e37, e31]; simp [xi, xsi]; rfl, by rw [e37]; simp [xi, xsi]; rfl, fun r hr => ?_⟩
    have : hN emT 0 = 0 := hN_of (show emT 0 = nI 0 from rfl) (by omega)
    omega
  intro x0 K21 u21 hx0 e1 e2
  generalize xup (xup K tb (1, 5)) ra (7, 24) = K7 at k7t k7r A3 T7 hx0 e1
  have fx0 : (K x0).1 = 0 := A3.free hx0
  have kx0 : K21 x0 = (1, 8) := by rw [e1]; unfold xup; rw [if_pos rfl]
  have z0 : (K (a 0)).1 ≠ 0 := by rw [k0]; decide
  have za1 : (K (a 1)).1 ≠ 0 := by rw [k1]; decide
  have n0 : a 0 ≠ x0 := fun z => by rw [z] at z0; exact z0 fx0
  have n1 : a 1 ≠ x0 := fun z => by rw [z] at za1; exact za1 fx0
  unfold xw8_init
  refine ⟨kx0, fun u2 e3 u11 e4 => ?_⟩
  have B1 : AE K7 u37 K21 u11 := by
    rw [e1]
    refine (AE.refl (K := K7) (u := u37)).gen hx0 (fun c hc k => ?_)
    rw [e4, e3, e2]
    obtain ⟨q1, q2, q3⟩ := xz_ne (v := u37) hc k
    refine ⟨?_, q2, ?_⟩
    · rw [← q1]; simp [xi, xsi, xsr, hc]
    · rw [← q3]; simp [xr, xsi, xsr, hc]
  have A4 : AE K u K21 u11 := A3.trans B1
  have T21 : rTab K21 (owF K) u11 tb emT := T7.fz ⟨fun c hc => ⟨(B1 c hc).1, rfl⟩, fun c k hc _ => ⟨((B1 c hc).2 k).1, ((B1 c hc).2 k).2.2⟩⟩
  have x70 : xr u11 x0 7 = some (a 0) := by rw [e4, e3]; simp [xr, xsi, xsr]
  have x00 : xi u11 x0 0 = nI n := by rw [e4]; simp [xi, xsi]
  have xz0 : ∀ k, k ≠ 0 → xi u11 x0 k = nI 0 := fun k hk => by
    rw [e4, e3, e2]
    simp [xi, xsi, xsr, xz, hk]
    rfl
  have hT : TXx a b n x0 K21 u11 := ⟨kx0, x00, x70, by rw [(A4 _ z0).1, k0], by rw [((A4 _ z0).2 2).2.2, p2], by rw [(A4 _ za1).1, k1], fun k hk => by rw [((A4 _ za1).2 k).1, hb k hk], hn, n1⟩
  refine x_next hT (Nat.zero_le _) (xz0 2 (by omega)) (fun v hf hk => hP tb x0 K21 v ?_)
  have hX : AXt x0 K21 u11 K21 v := AXt.refl.fr hf
  have t0 : ∀ w, tldI 0 w = nI 0 := fun w => cI_f (fun z => by unfold btT at z; rw [Nat.zero_div] at z; omega)
  exact ⟨hX.ae A4 fx0, hX.tx hT, hk, T21.ax hX kx0, fx0, by rw [t0, hf.1 _ _ (by omega)]; exact xz0 5 (by omega), by rw [t0, hf.1 _ _ (by omega)]; exact xz0 6 (by omega)⟩
theorem xw5_mono {mc ms : Nat} {P Q : XK → XS → Prop} {K : XK} {u : XS} {x0 : Nat} (h : xw5_init x0 K u mc ms P) (hPQ : ∀ K u, P K u → Q K u) : xw5_init x0 K u mc ms Q := by
  unfold xw5_init at h ⊢
  obtain ⟨h1, h2, h3⟩ := h
  refine ⟨h1, h2, fun b7 K7 u7 q1 q2 q3 => ?_⟩
  obtain ⟨g1, g2⟩ := h3 b7 K7 u7 q1 q2 q3
  exact ⟨g1, fun u10 e10 u15 e15 u20 e20 u25 e25 u31 e31 u37 e37 => hPQ _ _ (g2 u10 e10 u15 e15 u20 e20 u25 e25 u31 e31 u37 e37)⟩
set_option maxHeartbeats 8000000 in
theorem s_press (hR : Rep a K ow u m) (x : Int32) : ST a m (fun mc ms P => xw0_press (a 0) x K u mc ms P) (mw_press x) := by
  intro mc ms P hmc hms hP
  have hR0 := hR
  have hR5 := hR.opn
  have htp : ∀ k, k < 900 → xi u (a 1) k = jm_i m 5 k ∧ inR (jm_i m 5 k) (-128) 127 := hR.2.1.2.2.2.2.2.2.1
  obtain ⟨⟨⟨k0, k1, k2, k3, k4, k5, k6, k7, k8, k9, k10, k11, k12, k13, k14, k15, k16, k17, k18, k19, k20⟩, hO, ⟨p0, p1, p2, p6, p10, p11, p14, p15, p16, p17, p18, p21, p22, p23, p24, p25⟩, ⟨t0, t1, t2, t3⟩⟩, ⟨⟨c3, tn, c3n, c3l⟩, c4, c5, c7, c8, c9, ctape, cfirst, cworn⟩, hTr, ⟨⟨⟨g0, g0l⟩, ⟨g1, g1l⟩, ⟨g2, g2l⟩, ⟨g3, g3l⟩, ⟨g4, g4a, g4b⟩, ⟨g5, g5a, g5b⟩, gru⟩, hWW, _, ⟨tb, ptb, ⟨ra, ktb, otb, pra, kra, ora, f1, f2, f3, f4, f5, f6, hru⟩⟩, cdr, hwr⟩, hMar, s, as, ps, hSet⟩ := hR
  have o0 : ow (a 0) = 0 := hO 0 (by omega)
  have o2 : ow (a 2) = 2 := hO 2 (by omega)
  clear hMar hSet hTr cfirst cworn gru hru hwr
  rw [c3n] at c3
  rcases pl_ix x 901 with hx | hx | ⟨n, hn, rfl⟩
  · simp (disch := omega) only [xw0_press, xw0_opens, xw0_opens_B23, k0, k2, k12, p0, p1, p2, p6, p10, p11, p14, p15, p16, p17, p18, p21, p22, p23, p24, p25, ptb, ktb, pra, kra, f1, f2, f3, f4, f5, f6, g0, g4, g5, cdr, c3, xw0_isSet, xw0_whyNotSet, xw0_answer, xw0_table, xw0_isRule, xw0_at, xw0_isThere, xw15_lines, forall_eq, forall_eq', exists_eq_left, exists_eq_left', true_and, and_true, true_implies, false_implies, not_true_eq_false, not_false_eq_true, Prod.mk.injEq, Option.some.injEq, reduceCtorEq, and_self, implies_true, eq_self, Classical.not_not, and_false, false_and, ite_true, ite_false, reduceIte, bI_0, or_false, false_or, or_true, true_or, or_self, if_true, if_false, n_le_t, n_le_f, n_lt_t, n_lt_f, n_eq_t, n_eq_f, n_toInt, n_cl, n_vp, n_eqM, M_eqn, n_leM, n_ltM, M_len, M_ltn, M_add, n_sub, iM_toInt, x_lt_t, x_lt_f, x_le_t, x_le_f, lt_x_t, lt_x_f, le_x_t, le_x_f, x_eq_f, nI_add, pk_mul, bI_t, bI_f, Int32.toInt_toInt64, n_subI, x_add0, i_le_t, i_le_f, i_lt_t, i_lt_f, k_le_t, k_le_f, k_lt_t, k_lt_f, li_0, li_1, li_2, li_3, li_4, li_5, li_6, li_7, li_8, li_9, li_10, li_11, li_12, li_16, li_20, li_24, li_25, li_26, li_30, li_31, li_32, li_40, li_48, li_49, li_57, li_59, li_60, li_63, li_64, li_65, li_90, li_96, li_97, li_106, li_122, li_255, li_300, li_600, li_800, li_900, li_1850, li_2000, li_2010, li_2040, li_2801, li_3300, li_4161, li_9999, li_10163, li_16500, li_16800, li_17100, li_18350, li_18510, li_18540, li_65536, li_100000, li_999999, li_1000000, li_2147483647, im_1, im_8, ll_0, ll_1, ll_2, ll_3, ll_4, ll_6, ll_16, ll_20, ll_40, ll_63, ll_800, ll_9999, xi_same, xi_oa ow, xi_ok, xi_r, xi_l, xl_i, xl_r, xr_i, xr_l, xr_same, xr_oa ow, xr_ok, xl_same, xl_oa ow, xl_ok, Nat.reduceAdd, Nat.reduceMul, Nat.zero_add, Nat.add_zero, Nat.mul_zero, Nat.zero_mul, e_mw_isSmall, e_mw_isDigit, e_mw_isDigit0, e_mw_isGreat, e_xs_isSmall, e_xs_isFigure, e_xs_isGreat, e_mw_isLetter, e_xs_isLetter, e_isBlank, e_xs_isBlank, e_isFrom, e_isIn]
    refine hP _ _ _ (fun Q hQ => ?_)
    simp (disch := omega) only [mw_press, mw_begins, c3n, mw_isSet, mw_refuse, mw_gives, mw_is, mw_isRule, mw_ruleAt, mw_cellsOf, mw_cellAt, sl_of (m := m), forall_eq, forall_eq', exists_eq_left, exists_eq_left', true_and, and_true, true_implies, false_implies, not_true_eq_false, not_false_eq_true, Prod.mk.injEq, Option.some.injEq, reduceCtorEq, and_self, implies_true, eq_self, Classical.not_not, and_false, false_and, ite_true, ite_false, reduceIte, bI_0, or_false, false_or, or_true, true_or, or_self, if_true, if_false, n_le_t, n_le_f, n_lt_t, n_lt_f, n_eq_t, n_eq_f, n_toInt, n_cl, n_vp, n_eqM, M_eqn, n_leM, n_ltM, M_len, M_ltn, M_add, n_sub, iM_toInt, x_lt_t, x_lt_f, x_le_t, x_le_f, lt_x_t, lt_x_f, le_x_t, le_x_f, x_eq_f, nI_add, pk_mul, bI_t, bI_f, Int32.toInt_toInt64, n_subI, x_add0, i_le_t, i_le_f, i_lt_t, i_lt_f, k_le_t, k_le_f, k_lt_t, k_lt_f, li_0, li_1, li_2, li_3, li_4, li_5, li_6, li_7, li_8, li_9, li_10, li_11, li_12, li_16, li_20, li_24, li_25, li_26, li_30, li_31, li_32, li_40, li_48, li_49, li_57, li_59, li_60, li_63, li_64, li_65, li_90, li_96, li_97, li_106, li_122, li_255, li_300, li_600, li_800, li_900, li_1850, li_2000, li_2010, li_2040, li_2801, li_3300, li_4161, li_9999, li_10163, li_16500, li_16800, li_17100, li_18350, li_18510, li_18540, li_65536, li_100000, li_999999, li_1000000, li_2147483647, im_1, im_8, ll_0, ll_1, ll_2, ll_3, ll_4, ll_6, ll_16, ll_20, ll_40, ll_63, ll_800, ll_9999, jm_same, jm_ob, jm_ok, jm_il, jm_li, jm_lsame, jm_lob, jm_lok, Nat.reduceAdd, Nat.reduceMul, Nat.zero_add, Nat.add_zero, Nat.mul_zero, Nat.zero_mul, e_mw_isSmall, e_mw_isDigit, e_mw_isDigit0, e_mw_isGreat, e_xs_isSmall, e_xs_isFigure, e_xs_isGreat, e_mw_isLetter, e_xs_isLetter, e_isBlank, e_xs_isBlank, e_isFrom, e_isIn]
    exact hQ _ _ (hR0.st _)
  · by_cases c : (tn : Int) < x.toInt
    · simp (disch := omega) only [xw0_press, xw0_opens, xw0_opens_B23, k0, k2, k12, p0, p1, p2, p6, p10, p11, p14, p15, p16, p17, p18, p21, p22, p23, p24, p25, ptb, ktb, pra, kra, f1, f2, f3, f4, f5, f6, g0, g4, g5, cdr, c3, xw0_isSet, xw0_whyNotSet, xw0_answer, xw0_table, xw0_isRule, xw0_at, xw0_isThere, xw15_lines, forall_eq, forall_eq', exists_eq_left, exists_eq_left', true_and, and_true, true_implies, false_implies, not_true_eq_false, not_false_eq_true, Prod.mk.injEq, Option.some.injEq, reduceCtorEq, and_self, implies_true, eq_self, Classical.not_not, and_false, false_and, ite_true, ite_false, reduceIte, bI_0, or_false, false_or, or_true, true_or, or_self, if_true, if_false, n_le_t, n_le_f, n_lt_t, n_lt_f, n_eq_t, n_eq_f, n_toInt, n_cl, n_vp, n_eqM, M_eqn, n_leM, n_ltM, M_len, M_ltn, M_add, n_sub, iM_toInt, x_lt_t, x_lt_f, x_le_t, x_le_f, lt_x_t, lt_x_f, le_x_t, le_x_f, x_eq_f, nI_add, pk_mul, bI_t, bI_f, Int32.toInt_toInt64, n_subI, x_add0, i_le_t, i_le_f, i_lt_t, i_lt_f, k_le_t, k_le_f, k_lt_t, k_lt_f, li_0, li_1, li_2, li_3, li_4, li_5, li_6, li_7, li_8, li_9, li_10, li_11, li_12, li_16, li_20, li_24, li_25, li_26, li_30, li_31, li_32, li_40, li_48, li_49, li_57, li_59, li_60, li_63, li_64, li_65, li_90, li_96, li_97, li_106, li_122, li_255, li_300, li_600, li_800, li_900, li_1850, li_2000, li_2010, li_2040, li_2801, li_3300, li_4161, li_9999, li_10163, li_16500, li_16800, li_17100, li_18350, li_18510, li_18540, li_65536, li_100000, li_999999, li_1000000, li_2147483647, im_1, im_8, ll_0, ll_1, ll_2, ll_3, ll_4, ll_6, ll_16, ll_20, ll_40, ll_63, ll_800, ll_9999, xi_same, xi_oa ow, xi_ok, xi_r, xi_l, xl_i, xl_r, xr_i, xr_l, xr_same, xr_oa ow, xr_ok, xl_same, xl_oa ow, xl_ok, Nat.reduceAdd, Nat.reduceMul, Nat.zero_add, Nat.add_zero, Nat.mul_zero, Nat.zero_mul, e_mw_isSmall, e_mw_isDigit, e_mw_isDigit0, e_mw_isGreat, e_xs_isSmall, e_xs_isFigure, e_xs_isGreat, e_mw_isLetter, e_xs_isLetter, e_isBlank, e_xs_isBlank, e_isFrom, e_isIn]
      refine hP _ _ _ (fun Q hQ => ?_)
      simp (disch := omega) only [mw_press, mw_begins, c3n, mw_isSet, mw_refuse, mw_gives, mw_is, mw_isRule, mw_ruleAt, mw_cellsOf, mw_cellAt, sl_of (m := m), forall_eq, forall_eq', exists_eq_left, exists_eq_left', true_and, and_true, true_implies, false_implies, not_true_eq_false, not_false_eq_true, Prod.mk.injEq, Option.some.injEq, reduceCtorEq, and_self, implies_true, eq_self, Classical.not_not, and_false, false_and, ite_true, ite_false, reduceIte, bI_0, or_false, false_or, or_true, true_or, or_self, if_true, if_false, n_le_t, n_le_f, n_lt_t, n_lt_f, n_eq_t, n_eq_f, n_toInt, n_cl, n_vp, n_eqM, M_eqn, n_leM, n_ltM, M_len, M_ltn, M_add, n_sub, iM_toInt, x_lt_t, x_lt_f, x_le_t, x_le_f, lt_x_t, lt_x_f, le_x_t, le_x_f, x_eq_f, nI_add, pk_mul, bI_t, bI_f, Int32.toInt_toInt64, n_subI, x_add0, i_le_t, i_le_f, i_lt_t, i_lt_f, k_le_t, k_le_f, k_lt_t, k_lt_f, li_0, li_1, li_2, li_3, li_4, li_5, li_6, li_7, li_8, li_9, li_10, li_11, li_12, li_16, li_20, li_24, li_25, li_26, li_30, li_31, li_32, li_40, li_48, li_49, li_57, li_59, li_60, li_63, li_64, li_65, li_90, li_96, li_97, li_106, li_122, li_255, li_300, li_600, li_800, li_900, li_1850, li_2000, li_2010, li_2040, li_2801, li_3300, li_4161, li_9999, li_10163, li_16500, li_16800, li_17100, li_18350, li_18510, li_18540, li_65536, li_100000, li_999999, li_1000000, li_2147483647, im_1, im_8, ll_0, ll_1, ll_2, ll_3, ll_4, ll_6, ll_16, ll_20, ll_40, ll_63, ll_800, ll_9999, jm_same, jm_ob, jm_ok, jm_il, jm_li, jm_lsame, jm_lob, jm_lok, Nat.reduceAdd, Nat.reduceMul, Nat.zero_add, Nat.add_zero, Nat.mul_zero, Nat.zero_mul, e_mw_isSmall, e_mw_isDigit, e_mw_isDigit0, e_mw_isGreat, e_xs_isSmall, e_xs_isFigure, e_xs_isGreat, e_mw_isLetter, e_xs_isLetter, e_isBlank, e_xs_isBlank, e_isFrom, e_isIn]
      exact hQ _ _ (hR0.st _)
    · omega
  · by_cases c : tn < n
    · simp (disch := omega) only [xw0_press, xw0_opens, xw0_opens_B23, k0, k2, k12, p0, p1, p2, p6, p10, p11, p14, p15, p16, p17, p18, p21, p22, p23, p24, p25, ptb, ktb, pra, kra, f1, f2, f3, f4, f5, f6, g0, g4, g5, cdr, c3, xw0_isSet, xw0_whyNotSet, xw0_answer, xw0_table, xw0_isRule, xw0_at, xw0_isThere, xw15_lines, forall_eq, forall_eq', exists_eq_left, exists_eq_left', true_and, and_true, true_implies, false_implies, not_true_eq_false, not_false_eq_true, Prod.mk.injEq, Option.some.injEq, reduceCtorEq, and_self, implies_true, eq_self, Classical.not_not, and_false, false_and, ite_true, ite_false, reduceIte, bI_0, or_false, false_or, or_true, true_or, or_self, if_true, if_false, n_le_t, n_le_f, n_lt_t, n_lt_f, n_eq_t, n_eq_f, n_toInt, n_cl, n_vp, n_eqM, M_eqn, n_leM, n_ltM, M_len, M_ltn, M_add, n_sub, iM_toInt, x_lt_t, x_lt_f, x_le_t, x_le_f, lt_x_t, lt_x_f, le_x_t, le_x_f, x_eq_f, nI_add, pk_mul, bI_t, bI_f, Int32.toInt_toInt64, n_subI, x_add0, i_le_t, i_le_f, i_lt_t, i_lt_f, k_le_t, k_le_f, k_lt_t, k_lt_f, li_0, li_1, li_2, li_3, li_4, li_5, li_6, li_7, li_8, li_9, li_10, li_11, li_12, li_16, li_20, li_24, li_25, li_26, li_30, li_31, li_32, li_40, li_48, li_49, li_57, li_59, li_60, li_63, li_64, li_65, li_90, li_96, li_97, li_106, li_122, li_255, li_300, li_600, li_800, li_900, li_1850, li_2000, li_2010, li_2040, li_2801, li_3300, li_4161, li_9999, li_10163, li_16500, li_16800, li_17100, li_18350, li_18510, li_18540, li_65536, li_100000, li_999999, li_1000000, li_2147483647, im_1, im_8, ll_0, ll_1, ll_2, ll_3, ll_4, ll_6, ll_16, ll_20, ll_40, ll_63, ll_800, ll_9999, xi_same, xi_oa ow, xi_ok, xi_r, xi_l, xl_i, xl_r, xr_i, xr_l, xr_same, xr_oa ow, xr_ok, xl_same, xl_oa ow, xl_ok, Nat.reduceAdd, Nat.reduceMul, Nat.zero_add, Nat.add_zero, Nat.mul_zero, Nat.zero_mul, e_mw_isSmall, e_mw_isDigit, e_mw_isDigit0, e_mw_isGreat, e_xs_isSmall, e_xs_isFigure, e_xs_isGreat, e_mw_isLetter, e_xs_isLetter, e_isBlank, e_xs_isBlank, e_isFrom, e_isIn]
      refine hP _ _ _ (fun Q hQ => ?_)
      simp (disch := omega) only [mw_press, mw_begins, c3n, mw_isSet, mw_refuse, mw_gives, mw_is, mw_isRule, mw_ruleAt, mw_cellsOf, mw_cellAt, sl_of (m := m), forall_eq, forall_eq', exists_eq_left, exists_eq_left', true_and, and_true, true_implies, false_implies, not_true_eq_false, not_false_eq_true, Prod.mk.injEq, Option.some.injEq, reduceCtorEq, and_self, implies_true, eq_self, Classical.not_not, and_false, false_and, ite_true, ite_false, reduceIte, bI_0, or_false, false_or, or_true, true_or, or_self, if_true, if_false, n_le_t, n_le_f, n_lt_t, n_lt_f, n_eq_t, n_eq_f, n_toInt, n_cl, n_vp, n_eqM, M_eqn, n_leM, n_ltM, M_len, M_ltn, M_add, n_sub, iM_toInt, x_lt_t, x_lt_f, x_le_t, x_le_f, lt_x_t, lt_x_f, le_x_t, le_x_f, x_eq_f, nI_add, pk_mul, bI_t, bI_f, Int32.toInt_toInt64, n_subI, x_add0, i_le_t, i_le_f, i_lt_t, i_lt_f, k_le_t, k_le_f, k_lt_t, k_lt_f, li_0, li_1, li_2, li_3, li_4, li_5, li_6, li_7, li_8, li_9, li_10, li_11, li_12, li_16, li_20, li_24, li_25, li_26, li_30, li_31, li_32, li_40, li_48, li_49, li_57, li_59, li_60, li_63, li_64, li_65, li_90, li_96, li_97, li_106, li_122, li_255, li_300, li_600, li_800, li_900, li_1850, li_2000, li_2010, li_2040, li_2801, li_3300, li_4161, li_9999, li_10163, li_16500, li_16800, li_17100, li_18350, li_18510, li_18540, li_65536, li_100000, li_999999, li_1000000, li_2147483647, im_1, im_8, ll_0, ll_1, ll_2, ll_3, ll_4, ll_6, ll_16, ll_20, ll_40, ll_63, ll_800, ll_9999, jm_same, jm_ob, jm_ok, jm_il, jm_li, jm_lsame, jm_lob, jm_lok, Nat.reduceAdd, Nat.reduceMul, Nat.zero_add, Nat.add_zero, Nat.mul_zero, Nat.zero_mul, e_mw_isSmall, e_mw_isDigit, e_mw_isDigit0, e_mw_isGreat, e_xs_isSmall, e_xs_isFigure, e_xs_isGreat, e_mw_isLetter, e_xs_isLetter, e_isBlank, e_xs_isBlank, e_isFrom, e_isIn]
      exact hQ _ _ (hR0.st _)
    · have hopen : ∀ Po : Int32 → XS → Prop, Po (nI 1) (xsi (xsi (xsi (xsi u (a 0) 7 (nI 0)) (a 0) 3 (nI 0)) (a 0) 4 (nI 0)) (a 0) 5 iM) → xw0_opens (a 0) (nI n) (900 : Int32) K u Po := fun Po h => by
        simp (disch := omega) only [xw0_opens, xw0_opens_B23, k0, k2, k12, p0, p1, p2, p6, p10, p11, p14, p15, p16, p17, p18, p21, p22, p23, p24, p25, ptb, ktb, pra, kra, f1, f2, f3, f4, f5, f6, g0, g4, g5, cdr, c3, xw0_isSet, xw0_whyNotSet, xw0_answer, xw0_table, xw0_isRule, xw0_at, xw0_isThere, xw15_lines, forall_eq, forall_eq', exists_eq_left, exists_eq_left', true_and, and_true, true_implies, false_implies, not_true_eq_false, not_false_eq_true, Prod.mk.injEq, Option.some.injEq, reduceCtorEq, and_self, implies_true, eq_self, Classical.not_not, and_false, false_and, ite_true, ite_false, reduceIte, bI_0, or_false, false_or, or_true, true_or, or_self, if_true, if_false, n_le_t, n_le_f, n_lt_t, n_lt_f, n_eq_t, n_eq_f, n_toInt, n_cl, n_vp, n_eqM, M_eqn, n_leM, n_ltM, M_len, M_ltn, M_add, n_sub, iM_toInt, x_lt_t, x_lt_f, x_le_t, x_le_f, lt_x_t, lt_x_f, le_x_t, le_x_f, x_eq_f, nI_add, pk_mul, bI_t, bI_f, Int32.toInt_toInt64, n_subI, x_add0, i_le_t, i_le_f, i_lt_t, i_lt_f, k_le_t, k_le_f, k_lt_t, k_lt_f, li_0, li_1, li_2, li_3, li_4, li_5, li_6, li_7, li_8, li_9, li_10, li_11, li_12, li_16, li_20, li_24, li_25, li_26, li_30, li_31, li_32, li_40, li_48, li_49, li_57, li_59, li_60, li_63, li_64, li_65, li_90, li_96, li_97, li_106, li_122, li_255, li_300, li_600, li_800, li_900, li_1850, li_2000, li_2010, li_2040, li_2801, li_3300, li_4161, li_9999, li_10163, li_16500, li_16800, li_17100, li_18350, li_18510, li_18540, li_65536, li_100000, li_999999, li_1000000, li_2147483647, im_1, im_8, ll_0, ll_1, ll_2, ll_3, ll_4, ll_6, ll_16, ll_20, ll_40, ll_63, ll_800, ll_9999, xi_same, xi_oa ow, xi_ok, xi_r, xi_l, xl_i, xl_r, xr_i, xr_l, xr_same, xr_oa ow, xr_ok, xl_same, xl_oa ow, xl_ok, Nat.reduceAdd, Nat.reduceMul, Nat.zero_add, Nat.add_zero, Nat.mul_zero, Nat.zero_mul, e_mw_isSmall, e_mw_isDigit, e_mw_isDigit0, e_mw_isGreat, e_xs_isSmall, e_xs_isFigure, e_xs_isGreat, e_mw_isLetter, e_xs_isLetter, e_isBlank, e_xs_isBlank, e_isFrom, e_isIn]
        exact h
      have i5 := hR5.2.1.2.2.2.2.2.2.1
      have e11 : xr (xsi (xsi (xsi (xsi u (a 0) 7 (nI 0)) (a 0) 3 (nI 0)) (a 0) 4 (nI 0)) (a 0) 5 iM) (a 0) 1 = some (a 11) := p1
      have s0 : ∀ k, xr (xsi (xsi (xsi (xsi u (a 0) 7 (nI 0)) (a 0) 3 (nI 0)) (a 0) 4 (nI 0)) (a 0) 5 iM) (a 0) k = xr u (a 0) k := fun k => rfl
      have w5 : ∀ k, jm_i (wr6 m) 5 k = jm_i m 5 k := fun k => by unfold wr6 wr5; simp (disch := omega) only [forall_eq, forall_eq', exists_eq_left, exists_eq_left', true_and, and_true, true_implies, false_implies, not_true_eq_false, not_false_eq_true, Prod.mk.injEq, Option.some.injEq, reduceCtorEq, and_self, implies_true, eq_self, Classical.not_not, and_false, false_and, ite_true, ite_false, reduceIte, bI_0, or_false, false_or, or_true, true_or, or_self, if_true, if_false, n_le_t, n_le_f, n_lt_t, n_lt_f, n_eq_t, n_eq_f, n_toInt, n_cl, n_vp, n_eqM, M_eqn, n_leM, n_ltM, M_len, M_ltn, M_add, n_sub, iM_toInt, x_lt_t, x_lt_f, x_le_t, x_le_f, lt_x_t, lt_x_f, le_x_t, le_x_f, x_eq_f, nI_add, pk_mul, bI_t, bI_f, Int32.toInt_toInt64, n_subI, x_add0, i_le_t, i_le_f, i_lt_t, i_lt_f, k_le_t, k_le_f, k_lt_t, k_lt_f, li_0, li_1, li_2, li_3, li_4, li_5, li_6, li_7, li_8, li_9, li_10, li_11, li_12, li_16, li_20, li_24, li_25, li_26, li_30, li_31, li_32, li_40, li_48, li_49, li_57, li_59, li_60, li_63, li_64, li_65, li_90, li_96, li_97, li_106, li_122, li_255, li_300, li_600, li_800, li_900, li_1850, li_2000, li_2010, li_2040, li_2801, li_3300, li_4161, li_9999, li_10163, li_16500, li_16800, li_17100, li_18350, li_18510, li_18540, li_65536, li_100000, li_999999, li_1000000, li_2147483647, im_1, im_8, ll_0, ll_1, ll_2, ll_3, ll_4, ll_6, ll_16, ll_20, ll_40, ll_63, ll_800, ll_9999, jm_same, jm_ob, jm_ok, jm_il, jm_li, jm_lsame, jm_lob, jm_lok, xi_same, xi_oa ow, xi_ok, xi_r, xi_l, xl_i, xl_r, xr_i, xr_l, xr_same, xr_oa ow, xr_ok, xl_same, xl_oa ow, xl_ok, Nat.reduceAdd, Nat.reduceMul, Nat.zero_add, Nat.add_zero, Nat.mul_zero, Nat.zero_mul]
      have z7 : xi (xsi (xsi (xsi (xsi u (a 0) 7 (nI 0)) (a 0) 3 (nI 0)) (a 0) 4 (nI 0)) (a 0) 5 iM) (a 0) 7 = nI 0 := by simp (disch := omega) only [forall_eq, forall_eq', exists_eq_left, exists_eq_left', true_and, and_true, true_implies, false_implies, not_true_eq_false, not_false_eq_true, Prod.mk.injEq, Option.some.injEq, reduceCtorEq, and_self, implies_true, eq_self, Classical.not_not, and_false, false_and, ite_true, ite_false, reduceIte, bI_0, or_false, false_or, or_true, true_or, or_self, if_true, if_false, n_le_t, n_le_f, n_lt_t, n_lt_f, n_eq_t, n_eq_f, n_toInt, n_cl, n_vp, n_eqM, M_eqn, n_leM, n_ltM, M_len, M_ltn, M_add, n_sub, iM_toInt, x_lt_t, x_lt_f, x_le_t, x_le_f, lt_x_t, lt_x_f, le_x_t, le_x_f, x_eq_f, nI_add, pk_mul, bI_t, bI_f, Int32.toInt_toInt64, n_subI, x_add0, i_le_t, i_le_f, i_lt_t, i_lt_f, k_le_t, k_le_f, k_lt_t, k_lt_f, li_0, li_1, li_2, li_3, li_4, li_5, li_6, li_7, li_8, li_9, li_10, li_11, li_12, li_16, li_20, li_24, li_25, li_26, li_30, li_31, li_32, li_40, li_48, li_49, li_57, li_59, li_60, li_63, li_64, li_65, li_90, li_96, li_97, li_106, li_122, li_255, li_300, li_600, li_800, li_900, li_1850, li_2000, li_2010, li_2040, li_2801, li_3300, li_4161, li_9999, li_10163, li_16500, li_16800, li_17100, li_18350, li_18510, li_18540, li_65536, li_100000, li_999999, li_1000000, li_2147483647, im_1, im_8, ll_0, ll_1, ll_2, ll_3, ll_4, ll_6, ll_16, ll_20, ll_40, ll_63, ll_800, ll_9999, xi_same, xi_oa ow, xi_ok, xi_r, xi_l, xl_i, xl_r, xr_i, xr_l, xr_same, xr_oa ow, xr_ok, xl_same, xl_oa ow, xl_ok, Nat.reduceAdd, Nat.reduceMul, Nat.zero_add, Nat.add_zero, Nat.mul_zero, Nat.zero_mul, e_mw_isSmall, e_mw_isDigit, e_mw_isDigit0, e_mw_isGreat, e_xs_isSmall, e_xs_isFigure, e_xs_isGreat, e_mw_isLetter, e_xs_isLetter, e_isBlank, e_xs_isBlank, e_isFrom, e_isIn]
      unfold xw0_press
      refine ⟨k0, hopen _ ?_⟩
      have q2 : xr (xsi (xsi (xsi (xsi u (a 0) 7 (nI 0)) (a 0) 3 (nI 0)) (a 0) 4 (nI 0)) (a 0) 5 iM) (a 0) 2 = some (a 1) := p2
      have q10 : xr (xsi (xsi (xsi (xsi u (a 0) 7 (nI 0)) (a 0) 3 (nI 0)) (a 0) 4 (nI 0)) (a 0) 5 iM) (a 0) 10 = some (a 2) := p10
      generalize xsi (xsi (xsi (xsi u (a 0) 7 (nI 0)) (a 0) 3 (nI 0)) (a 0) 4 (nI 0)) (a 0) 5 iM = u1 at hR5 i5 e11 s0 z7 q2 q10 ⊢
      refine ⟨fun _ => ⟨by omega, by omega, fun tb K1 u2 htb e1 e2 => ⟨1, 24, by omega, by omega, ?_⟩⟩, fun z => absurd z (by decide)⟩
      have hst := x_pressS (b := fun k => jm_i m 5 k) (n := n) (mc := mc) (ms := ms) (P := fun K21 u27 b13 b21 => ∃ m31 w31, (((1 + 1) + 1) + m31) ≤ mc ∧ (((7 + 24) + 8) + w31) ≤ ms ∧ xw8_table b21 b13 K21 u27 m31 w31 (fun K31 u31 =>
            ∃ b39, (xr u31 (a 0) 10) = some b39 ∧
            K31 b39 = (1, 4) ∧
            ∀ u39 : XS, u39 = xsr u31 b39 0 (some b13) →
            ∃ b47, (xr u39 (a 0) 10) = some b47 ∧
            K31 b47 = (1, 4) ∧
            ∀ u47 : XS, u47 = xsi u39 b47 1 (0 : Int32) →
            ∃ b55, (xr u47 (a 0) 10) = some b55 ∧
            K31 b55 = (1, 4) ∧
            ∀ u55 : XS, u55 = xsr u47 b55 2 none →
            P (xi u55 b13 1) K31 u55) (fun q31 K31 u31 =>
            xw0_faulty (a 0) q31 K31 u31 (fun r66 u66 =>
              P r66 K31 u66))) k0 q2 k1 (fun k hk => by rw [(i5 k (by omega)).1, w5]) (by omega) ?_ tb K1 u2 htb e1 e2
      · refine xw5_mono hst (fun K17 u17 hh => ⟨by omega, by omega, hh⟩)
      · intro tb x0 K2 v hp
        refine ⟨100, 350, by omega, by omega, ⟨n + 1, ?_⟩⟩
        have k11 : K (a 11) = (1, 2) := hR0.1.1.2.2.2.2.2.2.2.2.2.2.2.1
        have hB : BDx a K u1 := ⟨k0, e11, k11⟩
        have hwA : TKw (fun k => jm_i m 5 k) n (tkA (fun k => jm_i m 5 k) n 0) := tkA_w (Nat.zero_le _)
        refine x_tabs hB (by omega) (by omega) (n + 1) emT 0 (tkA (fun k => jm_i m 5 k) n 0) K2 v 0 0 (by omega) hp hwA emT_ok.1 emT_ok.2 (Nat.zero_le _) (Nat.zero_le _) ?_
        cases ep : psP (fun k => jm_i m 5 k) n (n + 1) emT 0 (tkA (fun k => jm_i m 5 k) n 0) with
        | inl e =>
          intro K3 v3 hF
          obtain ⟨hF1, hF6, hF7⟩ := hF
          have hR6 := hR5.mde hF1
          unfold xw0_faulty
          refine ⟨hR6.1.1.2.2.2.2.2.2.2.2.2.2.2.1, hR6.1.1.1, fun u5 e5 u13 e13 u19 e19 => ?_⟩
          have n11 : a 11 ≠ a 0 := fun z => by have := hR6.1.2.1 11 (by omega); rw [z, hR6.1.2.1 0 (by omega)] at this; omega
          rw [hF6] at e5
          subst e5
          rw [show xi (xsi v3 (a 0) 4 (nI e.1)) (a 11) 7 = nI e.2 by rw [← hF7]; simp [xi, xsi, n11]] at e13
          subst e13 e19
          refine hP _ _ _ (fun Q hQ => ?_)
          refine m_pressR (b := fun k => jm_i m 5 k) c3n (by omega) c3l (fun k hk => ⟨rfl, (htp k (by omega)).2⟩) (fun e2 he2 w hw => ?_) (fun h he2 => ?_)
          · rw [ep] at he2
            injection he2 with he2
            subst he2
            obtain ⟨f1, f2, f3, f4, f5, f6⟩ := hw
            have := hQ _ _ (hR6.flt (n := jm_s (jm_s w 0 15 (nI 0)) 0 16 iM) (nI e.1) (nI e.2) (nI 9) (fun b q hs => ?_))
            · have ee : jm_s (jm_s (jm_s (jm_s (jm_s w 0 15 (nI 0)) 0 16 iM) 0 15 (nI e.1)) 0 16 (nI e.2)) 0 1 (nI 9) = jm_s (jm_s w 0 15 (nI e.1)) 0 1 (nI 9) := by
                refine Prod.ext ?_ rfl
                funext b k
                by_cases z1 : b = 0 ∧ k = 1
                · simp [jm_s, z1]
                · by_cases z16 : b = 0 ∧ k = 16
                  · have : w.1 0 16 = nI e.2 := f4
                    simp [jm_s, z16, this]
                  · by_cases z15 : b = 0 ∧ k = 15
                    · simp [jm_s, z15]
                    · simp only [jm_s, if_neg z1, if_neg z15, if_neg z16]
              rw [ee] at this
              exact this
            · refine ⟨?_, by
                have := f2 b q hs
                unfold wr6 wr5
                exact this⟩
              have h1 : ¬ (b = 0 ∧ q = 1) := fun z => hs (by unfold scr; omega)
              unfold wr6 wr5
              by_cases z16 : b = 0 ∧ q = 16
              · simp only [jm_i, jm_s, if_neg h1, if_pos z16]
              · by_cases z15 : b = 0 ∧ q = 15
                · simp only [jm_i, jm_s, if_neg h1, if_neg z16, if_pos z15]
                · have := f1 b q hs z16
                  unfold pr1 at this
                  simp only [jm_i, jm_s, if_neg z16] at this
                  simp only [jm_i, jm_s, if_neg h1, if_neg z16, if_neg z15]
                  exact this
          · rw [ep] at he2; cases he2
        | inr h =>
          intro K3 v3 hA3 hT3 hB3
          have hR6 := hR5.mde (fun c hc => ⟨(hA3 c hc).1, fun k => ⟨fun _ => ((hA3 c hc).2 k).1, ((hA3 c hc).2 k).2⟩⟩)
          have p10' : xr v3 (a 0) 10 = some (a 2) := hR6.1.2.2.1.2.2.2.2.1
          have k2' : K3 (a 2) = (1, 4) := hR6.1.1.2.2.1
          have o2' : owN K ow (a 2) = 2 := hR6.1.2.1 2 (by omega)
          have o0' : owN K ow (a 0) = 0 := hR6.1.2.1 0 (by omega)
          have n02 : a 0 ≠ a 2 := fun z => by rw [z, o2'] at o0'; omega
          have er : ∀ c k, c ≠ a 2 → xr (xsr (xsi (xsr v3 (a 2) 0 (some tb)) (a 2) 1 (nI 0)) (a 2) 2 none) c k = xr v3 c k := fun c k hc => by simp [xr, xsi, xsr, hc]
          have ei : ∀ c k, c ≠ a 2 → xi (xsr (xsi (xsr v3 (a 2) 0 (some tb)) (a 2) 1 (nI 0)) (a 2) 2 none) c k = xi v3 c k := fun c k hc => by simp [xi, xsi, xsr, hc]
          obtain ⟨ra, ktb, otb, _, _, _, f1, _⟩ := id hT3
          have ntb : tb ≠ a 2 := fun z => by rw [z, k2'] at ktb; cases ktb
          refine ⟨a 2, p10', k2', fun u39 e39 => ?_⟩
          subst e39
          refine ⟨a 2, by rw [← p10']; simp [xr, xsr, n02], k2', fun u47 e47 => ?_⟩
          subst e47
          refine ⟨a 2, by rw [← p10']; simp [xr, xsi, xsr, n02], k2', fun u55 e55 => ?_⟩
          have e55 : u55 = xsr (xsi (xsr v3 (a 2) 0 (some tb)) (a 2) 1 (nI 0)) (a 2) 2 none := e55
          subst e55
          rw [ei tb 1 ntb, f1]
          refine hP _ _ _ (fun Q hQ => ?_)
          refine m_pressR (b := fun k => jm_i m 5 k) c3n (by omega) c3l (fun k hk => ⟨rfl, (htp k (by omega)).2⟩) (fun e2 he2 => ?_) (fun h2 he2 hB2 v2 g1 g2 g3 g15 gs => ?_)
          · rw [ep] at he2; cases he2
          · rw [ep] at he2
            injection he2 with he2
            subst he2
            refine hQ (owN K ow) v2 ?_
            have esl : ∀ k, k < 3300 → sl v2 0 k = h k := fun k hk => by rw [← sl_of hk, g3 k hk]
            have g0l := hB3.1.1.2
            have hTo : rTab K3 (owN K ow) v3 tb h := hT3.own (fun c hc => by
              unfold owF at hc
              by_cases z : (K c).1 = 0
              · unfold owN; rw [if_pos z]
              · rw [if_neg z] at hc; cases hc)
            have hTo2 : rTab K3 (owN K ow) (xsr (xsi (xsr v3 (a 2) 0 (some tb)) (a 2) 1 (nI 0)) (a 2) 2 none) tb h := hTo.fz ⟨fun _ _ => ⟨rfl, rfl⟩, fun c k _ ho => by
              have hc2 : c ≠ a 2 := fun z => by rw [z, o2'] at ho; omega
              exact ⟨ei c k hc2, er c k hc2⟩⟩
            refine hR6.hou (fun c k hc => ei c k (fun z => hc (by rw [z]; exact o2'))) (fun c k => rfl) (fun c k hc => er c k (fun z => hc (by rw [z]; exact o2'))) ?_ (fun b k hs hk => ?_) ?_
            · refine ⟨hB3.1.cg (fun k hk => esl k (by omega)), Or.inl (by rw [esl 7 (by omega)]; exact hB3.2.2), k2', ⟨tb, by simp [xr, xsi, xsr], hTo2.cg (fun k hk => esl k (by omega)) hB3.1⟩, by rw [esl 6 (by omega), hB3.2.1]; simp [xi, xsi, xsr], Or.inl ⟨by rw [esl 7 (by omega)]; exact hB3.2.2, by simp [xr, xsr]⟩⟩
            · have h1 : ¬ (b = 0 ∧ k = 1) := fun z => hs (by unfold scr; omega)
              refine ⟨?_, by have := g2 b k hs; unfold wr6 wr5; exact this⟩
              unfold wr6 wr5
              by_cases z15 : b = 0 ∧ k = 15
              · rw [z15.1, z15.2, g15]
                simp [jm_i, jm_s]
              · have := g1 b k hs hk z15
                unfold pr1 at this
                by_cases z16 : b = 0 ∧ k = 16
                · simp only [jm_i, jm_s, if_pos z16] at this
                  simp only [jm_i, jm_s, if_neg h1, if_pos z16]
                  exact this
                · simp only [jm_i, jm_s, if_neg z16] at this
                  simp only [jm_i, jm_s, if_neg h1, if_neg z16, if_neg z15]
                  exact this
            · rw [gs]; unfold wr6; exact jm_same.symm
end PRP
