/-! PLAIN LAW: Setter.told whole: the Writing that is made; a new setter -/
set_option linter.unusedVariables false
set_option maxHeartbeats 8000000 in
/-- Writing(row): its rows are new -/
theorem x_newW {K0 K : XK} {u0 v : XS} {o row mc ms : Nat} {P : XK → XS → Prop} (h : OB K0 u0 K v o 15 (fun _ => none) (fun _ => none)) (hmc : 9 ≤ mc) (hms : 24 ≤ ms)
    (hP : ∀ K2 v2, OB K0 u0 K2 v2 o 15 (up (up (up (up (up (up (up (up (up (fun _ => none) 1 (some (2, 0, fun _ => 0))) 2 (some (2, 0, fun _ => 0))) 3 (some (2, 0, fun _ => 0))) 4 (some (2, 0, fun _ => 0))) 5 (some (2, 0, fun _ => 0))) 6 (some (2, 0, fun _ => 0))) 7 (some (2, 0, fun _ => 0))) 8 (some (2, 0, fun _ => 0))) 9 (some (2, 24, fun _ => 0))) (up (fun _ => none) 0 (some row)) → P K2 v2) : xw15_init o row K v mc ms P := by
  unfold xw15_init
  refine ⟨by omega, by omega, fun q1 K1 u1 hq1 e1 d1 => ?_⟩
  have k1 : K1 o = (1, 15) := by
    have hoq : o ≠ q1 := fun e => by rw [← e, h.2.1] at hq1; simp at hq1
    rw [e1]; unfold xup; rw [if_neg hoq]; exact h.2.1
  refine ⟨k1, fun v1 g1 => ?_⟩
  have h1 := h.new hq1 e1 d1 g1 (by omega) rfl
  refine ⟨by omega, by omega, fun q2 K2 u2 hq2 e2 d2 => ?_⟩
  intro v2 g2
  have h2 := h1.new hq2 e2 d2 g2 (by omega) rfl
  refine ⟨by omega, by omega, fun q3 K3 u3 hq3 e3 d3 => ?_⟩
  intro v3 g3
  have h3 := h2.new hq3 e3 d3 g3 (by omega) rfl
  refine ⟨by omega, by omega, fun q4 K4 u4 hq4 e4 d4 => ?_⟩
  intro v4 g4
  have h4 := h3.new hq4 e4 d4 g4 (by omega) rfl
  refine ⟨by omega, by omega, fun q5 K5 u5 hq5 e5 d5 => ?_⟩
  intro v5 g5
  have h5 := h4.new hq5 e5 d5 g5 (by omega) rfl
  refine ⟨by omega, by omega, fun q6 K6 u6 hq6 e6 d6 => ?_⟩
  intro v6 g6
  have h6 := h5.new hq6 e6 d6 g6 (by omega) rfl
  refine ⟨by omega, by omega, fun q7 K7 u7 hq7 e7 d7 => ?_⟩
  intro v7 g7
  have h7 := h6.new hq7 e7 d7 g7 (by omega) rfl
  refine ⟨by omega, by omega, fun q8 K8 u8 hq8 e8 d8 => ?_⟩
  intro v8 g8
  have h8 := h7.new hq8 e8 d8 g8 (by omega) rfl
  refine ⟨by omega, by omega, fun q9 K9 u9 hq9 e9 d9 => ?_⟩
  intro v9 g9
  have h9 := h8.new hq9 e9 d9 g9 (by omega) rfl
  intro v10 g10
  exact hP K9 v10 (h9.ref g10 rfl)
theorem OB.arr {K0 K : XK} {u0 v : XS} {o c f t n : Nat} {g g2 : Nat → Int32} {D : Nat → Option (Nat × Nat × (Nat → Int32))} {R : Nat → Option Nat} {ow2 : Nat → Nat} (h : OB K0 u0 K v o c D R) (hD : D f = some (t, n, g)) (hF : ∀ q, (K0 q).1 = 0 → ow2 q = 100) (he : ∀ k, k < n → g k = g2 k) : rArr K ow2 v o f t n g2 := by
  obtain ⟨h1, h2, h3, h4, h5, h6⟩ := h
  obtain ⟨x1, q, x2, x3, x4, x5⟩ := h4 f t n g hD
  exact ⟨q, x2, x4, hF q x3, fun k hk => by rw [x5 k hk, he k hk]⟩
section XAJ
variable {a : Nat → Nat} {K : XK} {ow : Nat → Nat} {s t : Nat} {as : Nat → Nat} {h b : Nat → Int32} {bb bn : Nat} {g : Int32} {w : Nat → Int32}
set_option maxHeartbeats 8000000 in
theorem x_toldAll {u : XS} {mc ms : Nat} {P : Nat → XK → XS → Prop} (hT : WT (tkW h w)) (hW : WWs (tkW h w)) (hS : xSt a K ow u s t as h bb b bn g) (hWw : xTop u s as w) (h7 : hN w 7 = bn) (hby : ∀ k, k < bn → w (300 + k) = b k) (hmc : 20 ≤ mc) (hms : 9000 ≤ ms)
    (hP : ∀ v r K2 v2, QZ ow u v → AE K v K2 v2 → (K r).1 = 0 → rWri K2 (fun c => if (K c).1 = 0 then 100 else ow c) v2 r (tkW h w) → P r K2 v2) : xw6_told s K u mc ms P := by
  refine x_told1 hT hW hS hWw (fun v hq hSv hWv hF => ?_)
  obtain ⟨⟨g0, g0l⟩, ⟨g1, g1l⟩, ⟨g2, g2l⟩, ⟨g3, g3l⟩, ⟨g4, g4a, g4b⟩, ⟨g5, g5a, g5b⟩, gr⟩ := id hT
  obtain ⟨⟨w7, w7l⟩, wb, ⟨w8, w8l⟩, ⟨w9, w9l⟩, ⟨w11, w11l⟩, wc, ws, wp, wpp⟩ := id hW
  have e7h : hN (tkW h w) 7 = bn := by rw [tkW_hw (by omega), h7]
  have e8 : tkW h w 8 = w 8 := tkW_w (by omega)
  have e8h : hN (tkW h w) 8 = hN w 8 := tkW_hw (by omega)
  have e9h : hN (tkW h w) 9 = hN w 9 := tkW_hw (by omega)
  rw [e8h] at w8l
  rw [e9h] at w9l
  rw [e8, e8h] at w8
  have hB := TB.all g4a hW (hN (tkW h w) 9) (Nat.le_refl _)
  have hL : tL (LSh (tkW h w)) < 700 ∧ tT (LSh (tkW h w)) < 2000 := by
    show tL (lAll (tkW h w) (hN (tkW h w) 9)) < 700 ∧ tT (lAll (tkW h w) (hN (tkW h w) 9)) < 2000
    rcases hB with ⟨h0, hs⟩ | ⟨h0, h1, h2⟩
    · rw [hs]; exact ⟨by show (0 : Nat) < 700; omega, by show (0 : Nat) < 2000; omega⟩
    · have rm := h2.room (by omega) (by unfold eP; split <;> omega)
      omega
  obtain ⟨⟨ks, os, _, _, ⟨p8, k8, o8⟩, ⟨p9, k9, o9⟩, ⟨p10, k10, o10⟩, ⟨p11, k11, o11⟩, ⟨p12, k12, o12⟩, ⟨p13, k13, o13⟩, ⟨p14, k14, o14⟩, ⟨p15, k15, o15⟩, ⟨p16, k16, o16⟩, _⟩, _, _, _, ⟨l2, ⟨nb, kb, hnb, hnb2⟩, ob, _⟩, l3, hbn, hbb, _⟩ := id hSv
  obtain ⟨l4, l5, l6, l7, lc, lu, lp⟩ := id hWv
  obtain ⟨l17, l18, l19, lla, llf, llb, lle⟩ := id hF
  rw [w8] at l4
  have z0 : (0 : Int32).toNatClampNeg = 0 := rfl
  have z24 : (24 : Int32).toNatClampNeg = 24 := rfl
  have ks0 : (K s).1 ≠ 0 := by rw [ks]; simp
  have kb0 : (K bb).1 ≠ 0 := by rw [kb]; simp
  unfold xw6_told_B54
  rw [l3, n_cl (by omega)]
  refine ⟨ks, by simp (disch := omega) only [forall_eq, forall_eq', exists_eq_left, exists_eq_left', true_and, and_true, true_implies, false_implies, not_true_eq_false, not_false_eq_true, Prod.mk.injEq, Option.some.injEq, reduceCtorEq, and_self, implies_true, eq_self, Classical.not_not, and_false, false_and, ite_true, ite_false, reduceIte, bI_0, or_false, false_or, or_true, true_or, or_self, if_true, if_false, n_le_t, n_le_f, n_lt_t, n_lt_f, n_eq_t, n_eq_f, n_toInt, n_cl, n_vp, n_eqM, M_eqn, n_leM, n_ltM, M_len, M_ltn, M_add, n_sub, iM_toInt, x_lt_t, x_lt_f, x_le_t, x_le_f, lt_x_t, lt_x_f, le_x_t, le_x_f, x_eq_f, nI_add, pk_mul, bI_t, bI_f, Int32.toInt_toInt64, n_subI, x_add0, i_le_t, i_le_f, i_lt_t, i_lt_f, k_le_t, k_le_f, k_lt_t, k_lt_f, li_0, li_1, li_2, li_3, li_4, li_5, li_6, li_7, li_8, li_9, li_10, li_11, li_12, li_16, li_20, li_24, li_25, li_26, li_30, li_31, li_32, li_40, li_48, li_49, li_57, li_59, li_60, li_63, li_64, li_65, li_90, li_96, li_97, li_106, li_122, li_255, li_300, li_600, li_800, li_900, li_1850, li_2000, li_2010, li_2040, li_2801, li_3300, li_4161, li_9999, li_10163, li_16500, li_16800, li_17100, li_18350, li_18510, li_18540, li_65536, li_100000, li_999999, li_1000000, li_2147483647, im_1, im_8, ll_0, ll_1, ll_2, ll_3, ll_4, ll_6, ll_16, ll_20, ll_40, ll_63, ll_800, ll_9999, jm_same, jm_ob, jm_ok, jm_il, jm_li, jm_lsame, jm_lob, jm_lok, Nat.reduceAdd, Nat.reduceMul, Nat.zero_add, Nat.add_zero, Nat.mul_zero, Nat.zero_mul, e_mw_isSmall, e_mw_isDigit, e_mw_isDigit0, e_mw_isGreat, e_xs_isSmall, e_xs_isFigure, e_xs_isGreat, e_mw_isLetter, e_xs_isLetter, e_isBlank, e_xs_isBlank, e_isFrom, e_isIn], by omega, by omega, by omega, fun row K1 u1 hq1 e1 d1 => ?_⟩
  have A1 : AE K v K1 u1 := by subst e1 d1; exact AE.refl.gen hq1 (fun b hb k => xz_ne hb k)
  have a1 := (A1 s ks0).2
  have l3' : xi u1 s 3 = nI bn := by rw [(a1 3).1, l3]
  rw [l3', n_cl (by omega), z0]
  refine ⟨bb, by rw [(a1 2).2.2, l2], nb, by rw [(A1 bb kb0).1, kb], by decide, by decide, by simp (disch := omega) only [forall_eq, forall_eq', exists_eq_left, exists_eq_left', true_and, and_true, true_implies, false_implies, not_true_eq_false, not_false_eq_true, Prod.mk.injEq, Option.some.injEq, reduceCtorEq, and_self, implies_true, eq_self, Classical.not_not, and_false, false_and, ite_true, ite_false, reduceIte, bI_0, or_false, false_or, or_true, true_or, or_self, if_true, if_false, n_le_t, n_le_f, n_lt_t, n_lt_f, n_eq_t, n_eq_f, n_toInt, n_cl, n_vp, n_eqM, M_eqn, n_leM, n_ltM, M_len, M_ltn, M_add, n_sub, iM_toInt, x_lt_t, x_lt_f, x_le_t, x_le_f, lt_x_t, lt_x_f, le_x_t, le_x_f, x_eq_f, nI_add, pk_mul, bI_t, bI_f, Int32.toInt_toInt64, n_subI, x_add0, i_le_t, i_le_f, i_lt_t, i_lt_f, k_le_t, k_le_f, k_lt_t, k_lt_f, li_0, li_1, li_2, li_3, li_4, li_5, li_6, li_7, li_8, li_9, li_10, li_11, li_12, li_16, li_20, li_24, li_25, li_26, li_30, li_31, li_32, li_40, li_48, li_49, li_57, li_59, li_60, li_63, li_64, li_65, li_90, li_96, li_97, li_106, li_122, li_255, li_300, li_600, li_800, li_900, li_1850, li_2000, li_2010, li_2040, li_2801, li_3300, li_4161, li_9999, li_10163, li_16500, li_16800, li_17100, li_18350, li_18510, li_18540, li_65536, li_100000, li_999999, li_1000000, li_2147483647, im_1, im_8, ll_0, ll_1, ll_2, ll_3, ll_4, ll_6, ll_16, ll_20, ll_40, ll_63, ll_800, ll_9999, jm_same, jm_ob, jm_ok, jm_il, jm_li, jm_lsame, jm_lob, jm_lok, Nat.reduceAdd, Nat.reduceMul, Nat.zero_add, Nat.add_zero, Nat.mul_zero, Nat.zero_mul, e_mw_isSmall, e_mw_isDigit, e_mw_isDigit0, e_mw_isGreat, e_xs_isSmall, e_xs_isFigure, e_xs_isGreat, e_mw_isLetter, e_xs_isLetter, e_isBlank, e_xs_isBlank, e_isFrom, e_isIn], by omega, by omega, fun u72 e72 => ?_⟩
  have nrow : ∀ b, (K b).1 ≠ 0 → b ≠ row := fun b hb e => by rw [e] at hb; exact hb hq1
  have A2 : AE K v K1 u72 := fun b hb => by
    obtain ⟨x1, x2⟩ := A1 b hb
    have := nrow b hb
    subst e72
    exact ⟨x1, fun k => by rw [(xcp_ne this k).1, (xcp_ne this k).2.1, (xcp_ne this k).2.2]; exact x2 k⟩
  have krow : K1 row = (3, bn) := by rw [e1]; unfold xup; rw [if_pos rfl]
  have vrow : ∀ k, k < bn → xi u72 row k = b k := fun k hk => by
    rw [e72, xcp_z hk, ((A1 bb kb0).2 k).1, hbb k hk]
  have a2 := (A2 s ks0).2
  have ks1 : K1 s = (1, 6) := by rw [(A2 s ks0).1, ks]
  have ks10 : (K1 s).1 ≠ 0 := by rw [ks1]; simp
  have av : ∀ {q t n : Nat}, K q = (t, n) → t ≠ 0 → K1 q = (t, n) ∧ ∀ k, xi u72 q k = xi v q k := fun {q t n} e ht => by
    have : (K q).1 ≠ 0 := by rw [e]; exact ht
    exact ⟨by rw [(A2 q this).1, e], fun k => ((A2 q this).2 k).1⟩
  refine ⟨by omega, by omega, fun o K2 u2 hqo e2 d2 => ?_⟩
  have O0 := OB.start (AE.refl : AE K1 u72 K1 u72) hqo e2 d2
  refine ⟨9, 24, by omega, by omega, x_newW O0 (by omega) (by omega) (fun K3 u3 O3 => ?_)⟩
  have b3 := (O3.1 s ks10).2
  have c3 : xi u3 s 4 = nI (hN w 8) := by rw [(b3 4).1, (a2 4).1, l4]
  rw [c3]
  refine ⟨as 8, by rw [(b3 8).2.2, (a2 8).2.2, p8], 1, hN w 8, by omega, by omega, x_cutF (f := 1) O3 (av k8 (by omega)).1 (by omega) (by omega) (by omega) (Nat.le_refl _) rfl (fun q4 K4 t4 T4 => ?_)⟩
  intro u4 d4
  have O4 := T4 u4 d4
  have b4 := (O4.1 s ks10).2
  have c4 : xi u4 s 5 = nI (hN w 9) := by rw [(b4 5).1, (a2 5).1, l5]
  rw [c4]
  refine ⟨as 9, by rw [(b4 9).2.2, (a2 9).2.2, p9], 1, hN w 9, by omega, by omega, x_cutF (f := 2) O4 (av k9 (by omega)).1 (by omega) (by omega) (by omega) (Nat.le_refl _) rfl (fun q5 K5 t5 T5 => ?_)⟩
  intro u5 d5
  have O5 := T5 u5 d5
  have b5 := (O5.1 s ks10).2
  have c5 : xi u5 s 5 = nI (hN w 9) := by rw [(b5 5).1, (a2 5).1, l5]
  rw [c5]
  refine ⟨as 10, by rw [(b5 10).2.2, (a2 10).2.2, p10], 1, hN w 9, by omega, by omega, x_cutF (f := 3) O5 (av k10 (by omega)).1 (by omega) (by omega) (by omega) (Nat.le_refl _) rfl (fun q6 K6 t6 T6 => ?_)⟩
  intro u6 d6
  have O6 := T6 u6 d6
  have b6 := (O6.1 s ks10).2
  have c6 : xi u6 s 5 = nI (hN w 9) := by rw [(b6 5).1, (a2 5).1, l5]
  rw [c6]
  refine ⟨as 11, by rw [(b6 11).2.2, (a2 11).2.2, p11], 1, hN w 9, by omega, by omega, x_cutF (f := 4) O6 (av k11 (by omega)).1 (by omega) (by omega) (by omega) (Nat.le_refl _) rfl (fun q7 K7 t7 T7 => ?_)⟩
  intro u7 d7
  have O7 := T7 u7 d7
  have b7 := (O7.1 s ks10).2
  have c7 : xi u7 s 5 = nI (hN w 9) := by rw [(b7 5).1, (a2 5).1, l5]
  rw [c7]
  refine ⟨as 12, by rw [(b7 12).2.2, (a2 12).2.2, p12], 1, hN w 9, by omega, by omega, x_cutF (f := 5) O7 (av k12 (by omega)).1 (by omega) (by omega) (by omega) (Nat.le_refl _) rfl (fun q8 K8 t8 T8 => ?_)⟩
  intro u8 d8
  have O8 := T8 u8 d8
  have b8 := (O8.1 s ks10).2
  have c8 : xi u8 s 4 = nI (hN w 8) := by rw [(b8 4).1, (a2 4).1, l4]
  rw [c8]
  refine ⟨as 13, by rw [(b8 13).2.2, (a2 13).2.2, p13], 1, hN w 8, by omega, by omega, x_cutF (f := 6) O8 (av k13 (by omega)).1 (by omega) (by omega) (by omega) (Nat.le_refl _) rfl (fun q9 K9 t9 T9 => ?_)⟩
  intro u9 d9
  have O9 := T9 u9 d9
  have b9 := (O9.1 s ks10).2
  have c9 : xi u9 s 17 = nI (tT (LSh (tkW h w))) := by rw [(b9 17).1, (a2 17).1, l17]
  rw [c9]
  refine ⟨as 15, by rw [(b9 15).2.2, (a2 15).2.2, p15], 1, tT (LSh (tkW h w)), by omega, by omega, x_cutF (f := 7) O9 (av k15 (by omega)).1 (by omega) (by omega) (by omega) (Nat.le_refl _) rfl (fun q10 K10 t10 T10 => ?_)⟩
  intro u10 d10
  have O10 := T10 u10 d10
  have b10 := (O10.1 s ks10).2
  have c10 : xi u10 s 18 + (1 : Int32) = nI (tL (LSh (tkW h w)) + 1) := by rw [(b10 18).1, (a2 18).1, l18]; simp (disch := omega) only [forall_eq, forall_eq', exists_eq_left, exists_eq_left', true_and, and_true, true_implies, false_implies, not_true_eq_false, not_false_eq_true, Prod.mk.injEq, Option.some.injEq, reduceCtorEq, and_self, implies_true, eq_self, Classical.not_not, and_false, false_and, ite_true, ite_false, reduceIte, bI_0, or_false, false_or, or_true, true_or, or_self, if_true, if_false, n_le_t, n_le_f, n_lt_t, n_lt_f, n_eq_t, n_eq_f, n_toInt, n_cl, n_vp, n_eqM, M_eqn, n_leM, n_ltM, M_len, M_ltn, M_add, n_sub, iM_toInt, x_lt_t, x_lt_f, x_le_t, x_le_f, lt_x_t, lt_x_f, le_x_t, le_x_f, x_eq_f, nI_add, pk_mul, bI_t, bI_f, Int32.toInt_toInt64, n_subI, x_add0, i_le_t, i_le_f, i_lt_t, i_lt_f, k_le_t, k_le_f, k_lt_t, k_lt_f, li_0, li_1, li_2, li_3, li_4, li_5, li_6, li_7, li_8, li_9, li_10, li_11, li_12, li_16, li_20, li_24, li_25, li_26, li_30, li_31, li_32, li_40, li_48, li_49, li_57, li_59, li_60, li_63, li_64, li_65, li_90, li_96, li_97, li_106, li_122, li_255, li_300, li_600, li_800, li_900, li_1850, li_2000, li_2010, li_2040, li_2801, li_3300, li_4161, li_9999, li_10163, li_16500, li_16800, li_17100, li_18350, li_18510, li_18540, li_65536, li_100000, li_999999, li_1000000, li_2147483647, im_1, im_8, ll_0, ll_1, ll_2, ll_3, ll_4, ll_6, ll_16, ll_20, ll_40, ll_63, ll_800, ll_9999, jm_same, jm_ob, jm_ok, jm_il, jm_li, jm_lsame, jm_lob, jm_lok, Nat.reduceAdd, Nat.reduceMul, Nat.zero_add, Nat.add_zero, Nat.mul_zero, Nat.zero_mul, e_mw_isSmall, e_mw_isDigit, e_mw_isDigit0, e_mw_isGreat, e_xs_isSmall, e_xs_isFigure, e_xs_isGreat, e_mw_isLetter, e_xs_isLetter, e_isBlank, e_xs_isBlank, e_isFrom, e_isIn]
  rw [c10]
  refine ⟨as 16, by rw [(b10 16).2.2, (a2 16).2.2, p16], 1, tL (LSh (tkW h w)) + 1, by omega, by omega, x_cutF (f := 8) O10 (av k16 (by omega)).1 (by omega) (by omega) (by omega) (Nat.le_refl _) rfl (fun q11 K11 t11 T11 => ?_)⟩
  intro u11 d11
  have O11 := T11 u11 d11
  have b11 := (O11.1 s ks10).2
  obtain ⟨_, q9, x2, x3, x4, x5⟩ := O11.2.2.2.1 9 2 24 _ rfl
  rw [z24]
  refine ⟨q9, x2, as 14, by rw [(b11 14).2.2, (a2 14).2.2, p14], 24, by rw [(O11.1 _ (by rw [(av k14 (by omega)).1]; simp)).1, (av k14 (by omega)).1], 24, x4, by decide, by decide, by decide, by omega, by omega, fun u20 d20 => ?_⟩
  have O20 := O11.over (f := 9) rfl x2 (by rw [(av k14 (by omega)).1]; simp) d20
  intro u21 d21
  have O21 := O20.int d21
  intro u22 d22
  have O22 := O21.int d22
  intro u23 d23
  have O23 := O22.int d23
  have b20 := (O20.1 s ks10).2
  have b21 := (O21.1 s ks10).2
  have b22 := (O22.1 s ks10).2
  have kro : K11 row = (3, bn) ∧ ∀ k, xi u23 row k = xi u72 row k := by
    have : (K1 row).1 ≠ 0 := by rw [krow]; simp
    exact ⟨by rw [(O23.1 row this).1, krow], fun k => ((O23.1 row this).2 k).1⟩
  have fr : ∀ q, (K1 q).1 = 0 → (if (K q).1 = 0 then 100 else ow q) = 100 := fun q hq => if_pos (A2.free hq)
  have em : ∀ k, k < hN w 9 → pM (tkW h w) k = pM w k := fun k hk => tkW_pM hk w9l
  refine hP v o K11 u23 hq (A2.trans O23.1) (A2.free hqo) ⟨O23.2.1, if_pos (A2.free hqo), ⟨row, O23.2.2.2.2.2 0 row rfl, by rw [kro.1, e7h], if_pos hq1, fun k hk => ?_⟩, ?_, ?_, ?_, ?_, ?_, ?_, ?_, ?_, O23.arr (f := 9) rfl fr (fun k hk => ?_), ?_, ?_, ?_⟩
  · rw [e7h] at hk
    rw [kro.2, vrow k hk]
    show b k = tkW h w (300 + k)
    rw [tkW_w (by omega), hby k hk]
  · rw [e8h]; exact O23.arr (f := 1) rfl fr (fun k hk => by rw [(av k8 (by omega)).2, (lc k hk).1, tkW_w (by omega)])
  · rw [e9h]; exact O23.arr (f := 2) rfl fr (fun k hk => by rw [(av k9 (by omega)).2, (lp k hk).1, tkW_w (by omega)])
  · rw [e9h]; exact O23.arr (f := 3) rfl fr (fun k hk => by rw [(av k10 (by omega)).2, (lp k hk).2, em k hk])
  · rw [e9h]; exact O23.arr (f := 4) rfl fr (fun k hk => by rw [(av k11 (by omega)).2]; exact llb k (by omega))
  · rw [e9h]; exact O23.arr (f := 5) rfl fr (fun k hk => by rw [(av k12 (by omega)).2]; exact lle k (by omega))
  · rw [e8h]; exact O23.arr (f := 6) rfl fr (fun k hk => by rw [(av k13 (by omega)).2, (lc k hk).2, tkW_w (by omega)])
  · exact O23.arr (f := 7) rfl fr (fun k hk => by rw [(av k15 (by omega)).2]; exact lla k hk)
  · exact O23.arr (f := 8) rfl fr (fun k hk => by rw [(av k16 (by omega)).2]; exact llf k hk)
  · rw [(av k14 (by omega)).2, lu k hk, tkW_w (by omega)]
  · subst d23 d22 d21
    simp (disch := omega) only [xi_same, xi_ok, forall_eq, forall_eq', exists_eq_left, exists_eq_left', true_and, and_true, true_implies, false_implies, not_true_eq_false, not_false_eq_true, Prod.mk.injEq, Option.some.injEq, reduceCtorEq, and_self, implies_true, eq_self, Classical.not_not, and_false, false_and, ite_true, ite_false, reduceIte, bI_0, or_false, false_or, or_true, true_or, or_self, if_true, if_false, n_le_t, n_le_f, n_lt_t, n_lt_f, n_eq_t, n_eq_f, n_toInt, n_cl, n_vp, n_eqM, M_eqn, n_leM, n_ltM, M_len, M_ltn, M_add, n_sub, iM_toInt, x_lt_t, x_lt_f, x_le_t, x_le_f, lt_x_t, lt_x_f, le_x_t, le_x_f, x_eq_f, nI_add, pk_mul, bI_t, bI_f, Int32.toInt_toInt64, n_subI, x_add0, i_le_t, i_le_f, i_lt_t, i_lt_f, k_le_t, k_le_f, k_lt_t, k_lt_f, li_0, li_1, li_2, li_3, li_4, li_5, li_6, li_7, li_8, li_9, li_10, li_11, li_12, li_16, li_20, li_24, li_25, li_26, li_30, li_31, li_32, li_40, li_48, li_49, li_57, li_59, li_60, li_63, li_64, li_65, li_90, li_96, li_97, li_106, li_122, li_255, li_300, li_600, li_800, li_900, li_1850, li_2000, li_2010, li_2040, li_2801, li_3300, li_4161, li_9999, li_10163, li_16500, li_16800, li_17100, li_18350, li_18510, li_18540, li_65536, li_100000, li_999999, li_1000000, li_2147483647, im_1, im_8, ll_0, ll_1, ll_2, ll_3, ll_4, ll_6, ll_16, ll_20, ll_40, ll_63, ll_800, ll_9999, jm_same, jm_ob, jm_ok, jm_il, jm_li, jm_lsame, jm_lob, jm_lok, Nat.reduceAdd, Nat.reduceMul, Nat.zero_add, Nat.add_zero, Nat.mul_zero, Nat.zero_mul, e_mw_isSmall, e_mw_isDigit, e_mw_isDigit0, e_mw_isGreat, e_xs_isSmall, e_xs_isFigure, e_xs_isGreat, e_mw_isLetter, e_xs_isLetter, e_isBlank, e_xs_isBlank, e_isFrom, e_isIn]
    rw [(b20 6).1, (a2 6).1, l6, tkW_w (by omega)]
  · subst d23 d22
    simp (disch := omega) only [xi_same, xi_ok, forall_eq, forall_eq', exists_eq_left, exists_eq_left', true_and, and_true, true_implies, false_implies, not_true_eq_false, not_false_eq_true, Prod.mk.injEq, Option.some.injEq, reduceCtorEq, and_self, implies_true, eq_self, Classical.not_not, and_false, false_and, ite_true, ite_false, reduceIte, bI_0, or_false, false_or, or_true, true_or, or_self, if_true, if_false, n_le_t, n_le_f, n_lt_t, n_lt_f, n_eq_t, n_eq_f, n_toInt, n_cl, n_vp, n_eqM, M_eqn, n_leM, n_ltM, M_len, M_ltn, M_add, n_sub, iM_toInt, x_lt_t, x_lt_f, x_le_t, x_le_f, lt_x_t, lt_x_f, le_x_t, le_x_f, x_eq_f, nI_add, pk_mul, bI_t, bI_f, Int32.toInt_toInt64, n_subI, x_add0, i_le_t, i_le_f, i_lt_t, i_lt_f, k_le_t, k_le_f, k_lt_t, k_lt_f, li_0, li_1, li_2, li_3, li_4, li_5, li_6, li_7, li_8, li_9, li_10, li_11, li_12, li_16, li_20, li_24, li_25, li_26, li_30, li_31, li_32, li_40, li_48, li_49, li_57, li_59, li_60, li_63, li_64, li_65, li_90, li_96, li_97, li_106, li_122, li_255, li_300, li_600, li_800, li_900, li_1850, li_2000, li_2010, li_2040, li_2801, li_3300, li_4161, li_9999, li_10163, li_16500, li_16800, li_17100, li_18350, li_18510, li_18540, li_65536, li_100000, li_999999, li_1000000, li_2147483647, im_1, im_8, ll_0, ll_1, ll_2, ll_3, ll_4, ll_6, ll_16, ll_20, ll_40, ll_63, ll_800, ll_9999, jm_same, jm_ob, jm_ok, jm_il, jm_li, jm_lsame, jm_lob, jm_lok, Nat.reduceAdd, Nat.reduceMul, Nat.zero_add, Nat.add_zero, Nat.mul_zero, Nat.zero_mul, e_mw_isSmall, e_mw_isDigit, e_mw_isDigit0, e_mw_isGreat, e_xs_isSmall, e_xs_isFigure, e_xs_isGreat, e_mw_isLetter, e_xs_isLetter, e_isBlank, e_xs_isBlank, e_isFrom, e_isIn]
    rw [(b21 19).1, (a2 19).1, l19]
  · subst d23
    simp (disch := omega) only [xi_same, xi_ok, forall_eq, forall_eq', exists_eq_left, exists_eq_left', true_and, and_true, true_implies, false_implies, not_true_eq_false, not_false_eq_true, Prod.mk.injEq, Option.some.injEq, reduceCtorEq, and_self, implies_true, eq_self, Classical.not_not, and_false, false_and, ite_true, ite_false, reduceIte, bI_0, or_false, false_or, or_true, true_or, or_self, if_true, if_false, n_le_t, n_le_f, n_lt_t, n_lt_f, n_eq_t, n_eq_f, n_toInt, n_cl, n_vp, n_eqM, M_eqn, n_leM, n_ltM, M_len, M_ltn, M_add, n_sub, iM_toInt, x_lt_t, x_lt_f, x_le_t, x_le_f, lt_x_t, lt_x_f, le_x_t, le_x_f, x_eq_f, nI_add, pk_mul, bI_t, bI_f, Int32.toInt_toInt64, n_subI, x_add0, i_le_t, i_le_f, i_lt_t, i_lt_f, k_le_t, k_le_f, k_lt_t, k_lt_f, li_0, li_1, li_2, li_3, li_4, li_5, li_6, li_7, li_8, li_9, li_10, li_11, li_12, li_16, li_20, li_24, li_25, li_26, li_30, li_31, li_32, li_40, li_48, li_49, li_57, li_59, li_60, li_63, li_64, li_65, li_90, li_96, li_97, li_106, li_122, li_255, li_300, li_600, li_800, li_900, li_1850, li_2000, li_2010, li_2040, li_2801, li_3300, li_4161, li_9999, li_10163, li_16500, li_16800, li_17100, li_18350, li_18510, li_18540, li_65536, li_100000, li_999999, li_1000000, li_2147483647, im_1, im_8, ll_0, ll_1, ll_2, ll_3, ll_4, ll_6, ll_16, ll_20, ll_40, ll_63, ll_800, ll_9999, jm_same, jm_ob, jm_ok, jm_il, jm_li, jm_lsame, jm_lob, jm_lok, Nat.reduceAdd, Nat.reduceMul, Nat.zero_add, Nat.add_zero, Nat.mul_zero, Nat.zero_mul, e_mw_isSmall, e_mw_isDigit, e_mw_isDigit0, e_mw_isGreat, e_xs_isSmall, e_xs_isFigure, e_xs_isGreat, e_mw_isLetter, e_xs_isLetter, e_isBlank, e_xs_isBlank, e_isFrom, e_isIn]
    rw [(b22 7).1, (a2 7).1, l7, tkW_w (by omega)]
end XAJ
