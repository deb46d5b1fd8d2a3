/-! PLAIN LAW: ways -/
set_option linter.unusedVariables false
section XCB
variable {a : Nat → Nat} {K : XK} {ow : Nat → Nat} {u v : XS} {m n : MS}
/-- the row that is asked for -/
def rwA (m : MS) (i : Nat) : Nat → Int32 := fun k => (jm_l m 4 (60 * i + k)).toInt32
theorem rTray.tr3 {t : Nat} (h : rTray K ow u m (a (6 + t)) t) : jm_i m 3 t = iM ∨ ∃ n2, jm_i m 3 t = nI n2 ∧ n2 ≤ 60 := by
  rcases h with ⟨h1, _⟩ | ⟨_, n2, _, _, _, _, h5, h6, _⟩
  · exact Or.inl h1
  · exact Or.inr ⟨n2, h6, h5⟩
/-- reads, none fails, counts: the component -/
theorem x_waysC {x many : Int32} {mc ms : Nat} {P : Int32 → XK → XS → Prop} {PX : Nat → XK → XS → Prop} (hR : Rep a K ow u m) (p15 : xr u (a 0) 15 = some (a 14))
    (hw : ∀ w v, rowO m x many 1 = w → w ≠ 0 → QZ ow u v → PX (a 12) K (xsi v (a 12) 6 (nI w)))
    (h0 : ∀ i c v, rowO m x many 1 = 0 → x = nI i → i < 4 → many = nI c → 1 ≤ c → c ≤ 20 → QZ ow u v → (∀ k, k < c → xi v (a 14) k = rwA m i k) → (∀ k, k < c → xi v (a 15) k = nI 0) → (∀ k, k ≤ c → xi v (a 16) k = nI (wyW (sl m 0) (rwA m i) (fun _ => nI 0) c c k)) → P (nI (wyW (sl m 0) (rwA m i) (fun _ => nI 0) c c 0)) K v) :
    xw0_reads (a 0) x many (1 : Int32) (a 14) K u mc ms (fun K13 u13 => xw0_noneFails (a 0) K13 u13 (fun u17 => xw0_countWays (a 0) many K13 u17 (fun r22 u22 => P r22 K13 u22))) PX := by
  have k0 := hR.1.1.1
  have o0 : ow (a 0) = 0 := hR.1.2.1 0 (by omega)
  have o14 : ow (a 14) = 14 := hR.1.2.1 14 (by omega)
  have o15 : ow (a 15) = 15 := hR.1.2.1 15 (by omega)
  have o16 : ow (a 16) = 16 := hR.1.2.1 16 (by omega)
  have k14 : K (a 14) = (2, 20) := hR.1.1.2.2.2.2.2.2.2.2.2.2.2.2.2.2.1
  have k15 : K (a 15) = (2, 20) := hR.1.1.2.2.2.2.2.2.2.2.2.2.2.2.2.2.2.1
  have p16 : xr u (a 0) 16 = some (a 15) := hR.1.2.2.1.2.2.2.2.2.2.2.2.1
  refine x_reads (least := 1) hR k14 (by omega) (by omega) (fun w v e hne hq _ => hw w v e hne hq) (fun i c v e ex hi em h1 h2 hq hb hv => ?_)
  subst em
  refine x_noneFails k0 (by rw [hq.2.2 _ _ (by omega), p16]) k15 o0 o15 (fun v2 hq2 hb2 hf2 => ?_)
  have hRv := hR.vv (hq.trans hq2).x
  have esl : sl (jm_s m 0 1 (xi v2 (a 0) 7)) 0 = sl m 0 := sl_so (by omega)
  have n145 : a 14 ≠ a 15 := fun z => by rw [z] at o14; omega
  have n146 : a 14 ≠ a 16 := fun z => by rw [z] at o14; omega
  have n156 : a 15 ≠ a 16 := fun z => by rw [z] at o15; omega
  refine x_countWays (A := rwA m i) (F := fun _ => nI 0) hRv h1 h2 (fun k hk => by rw [hb2 _ _ n145, hv k hk]; rfl) (fun k hk => hf2 k (by omega)) (fun v3 hq3 hb3 hv3 => ?_)
  rw [esl] at hv3 ⊢
  exact h0 i c v3 e ex hi rfl h1 h2 ((hq.trans hq2).trans hq3) (fun k hk => by rw [hb3 _ _ n146, hb2 _ _ n145, hv k hk]; rfl) (fun k hk => by rw [hb3 _ _ n156, hf2 k (by omega)]) hv3
/-- lays the row, counts: the reference -/
theorem m_waysC {i c : Nat} {Q : Int32 → MS → Prop} (hT : WT (sl m 0)) (hi : i < 4) (h1 : 1 ≤ c) (h2 : c ≤ 20)
    (hQ : ∀ v, (∀ b k, b ≠ 14 → b ≠ 15 → b ≠ 16 → jm_i v b k = jm_i m b k) → (∀ b k, jm_l v b k = jm_l m b k) → (∀ k, k < c → jm_i v 14 k = rwA m i k) → (∀ k, k < c → jm_i v 15 k = nI 0) → (∀ k, k ≤ c → jm_i v 16 k = nI (wyW (sl m 0) (rwA m i) (fun _ => nI 0) c c k)) → Q (nI (wyW (sl m 0) (rwA m i) (fun _ => nI 0) c c 0)) v) :
    mw_laysRow (nI i) (nI c) m (fun u21 => mw_countsWays (nI c) u21 (fun r27 u27 => Q r27 u27)) := by
  refine m_laysRow hi h2 (fun v g1 g2 g3 g4 => ?_)
  refine m_countsWays (A := rwA m i) (F := fun _ => nI 0) hT (fun k hk => by rw [g1 _ _ (by omega) (by omega)]; exact sl_of hk) h1 h2 g3 g4 (fun w y1 y2 y3 => ?_)
  exact hQ w (fun b k h14 h15 h16 => by rw [y1 _ _ h16, g1 _ _ h14 h15]) (fun b k => by rw [y2, g2]) (fun k hk => by rw [y1 _ _ (by omega), g3 k hk]; rfl) (fun k hk => by rw [y1 _ _ (by omega), g4 k hk]) y3
theorem QZ.st0 {s : Int32} (h : QZ ow (xsi u (a 0) 7 s) v) : QX ow (a 0) u v := (QX.st QX.refl).trans h.x
theorem QZ.sta {s : Int32} (o0 : ow (a 0) = 0) (h : QZ ow (xsi u (a 0) 7 s) v) : xi v (a 0) 7 = s := by rw [h.1 _ _ (by rw [o0]; unfold xsc; omega), xi_same]
set_option maxHeartbeats 4000000 in
theorem q_ways (hR : Rep a K ow u m) (x y : Int32) : QA a K ow u m (fun mc ms P => xw0_ways (a 0) x y K u mc ms P) (mw_ways x y) := by
  have hR1 := hR.st (nI 0)
  have hT : WT (sl m 0) := hR.2.2.2.1.1
  have k0 := hR.1.1.1
  have k12 : K (a 12) = (1, 3) := hR.1.1.2.2.2.2.2.2.2.2.2.2.2.2.1
  have o0 : ow (a 0) = 0 := hR.1.2.1 0 (by omega)
  have o12 : ow (a 12) = 12 := hR.1.2.1 12 (by omega)
  have p15 : xr u (a 0) 15 = some (a 14) := hR.1.2.2.1.2.2.2.2.2.2.2.1
  have hTr : ∀ t, t < 4 → jm_i m 3 t = iM ∨ ∃ n2, jm_i m 3 t = nI n2 ∧ n2 ≤ 60 := fun t ht => (hR.2.2.1 t ht).tr3
  have eO : ∀ l, rowO (jm_s m 0 1 (nI 0)) x y l = rowO m x y l := fun l => rfl
  by_cases hz : rowO m x y 1 = 0
  · obtain ⟨i, c, rfl, hi, rfl, h1, h2⟩ := rowO_z hz
    refine ⟨nI (wyW (sl m 0) (rwA m i) (fun _ => nI 0) c c 0), nI 0, fun mc ms P hmc hms hP => ?_, fun P hP => ?_⟩
    · unfold xw0_ways
      refine ⟨k0, fun u2 e2 => ⟨a 14, by rw [e2]; exact p15, 100, 1000, by omega, by omega, ?_⟩⟩
      have e2 : u2 = xsi u (a 0) 7 (nI 0) := e2
      subst e2
      refine x_waysC hR1 p15 (fun w v e hne hq => ?_) (fun i' c' v e ex hi' em y1 y2 hq hv hf hW => ?_)
      · rw [eO, hz] at e; omega
      · have e1 : i = i' := (nI_eq (by omega) (by omega)).mp ex
        have e2 : c = c' := (nI_eq (by omega) (by omega)).mp em
        subst e1 e2
        rw [sl_so (by omega)]
        exact hP K ow v (XA.of hq.st0) (hR.vv hq.st0).to0.2 (hq.sta o0)
    · unfold mw_ways
      refine m_wrongRow (least := 1) hTr (by omega) ?_
      rw [hz]
      simp (disch := omega) only [forall_eq, forall_eq', exists_eq_left, exists_eq_left', true_and, and_true, true_implies, false_implies, not_true_eq_false, not_false_eq_true, Prod.mk.injEq, Option.some.injEq, reduceCtorEq, and_self, implies_true, eq_self, Classical.not_not, and_false, false_and, ite_true, ite_false, reduceIte, bI_0, or_false, false_or, or_true, true_or, or_self, if_true, if_false, n_le_t, n_le_f, n_lt_t, n_lt_f, n_eq_t, n_eq_f, n_toInt, n_cl, n_vp, n_eqM, M_eqn, n_leM, n_ltM, M_len, M_ltn, M_add, n_sub, iM_toInt, x_lt_t, x_lt_f, x_le_t, x_le_f, lt_x_t, lt_x_f, le_x_t, le_x_f, x_eq_f, nI_add, pk_mul, bI_t, bI_f, Int32.toInt_toInt64, n_subI, x_add0, i_le_t, i_le_f, i_lt_t, i_lt_f, k_le_t, k_le_f, k_lt_t, k_lt_f, li_0, li_1, li_2, li_3, li_4, li_5, li_6, li_7, li_8, li_9, li_10, li_11, li_12, li_16, li_20, li_24, li_25, li_26, li_30, li_31, li_32, li_40, li_48, li_49, li_57, li_59, li_60, li_63, li_64, li_65, li_90, li_96, li_97, li_106, li_122, li_255, li_300, li_600, li_800, li_900, li_1850, li_2000, li_2010, li_2040, li_2801, li_3300, li_4161, li_9999, li_10163, li_16500, li_16800, li_17100, li_18350, li_18510, li_18540, li_65536, li_100000, li_999999, li_1000000, li_2147483647, im_1, im_8, ll_0, ll_1, ll_2, ll_3, ll_4, ll_6, ll_16, ll_20, ll_40, ll_63, ll_800, ll_9999, jm_same, jm_ob, jm_ok, jm_il, jm_li, jm_lsame, jm_lob, jm_lok, Nat.reduceAdd, Nat.reduceMul, Nat.zero_add, Nat.add_zero, Nat.mul_zero, Nat.zero_mul, e_mw_isSmall, e_mw_isDigit, e_mw_isDigit0, e_mw_isGreat, e_xs_isSmall, e_xs_isFigure, e_xs_isGreat, e_mw_isLetter, e_xs_isLetter, e_isBlank, e_xs_isBlank, e_isFrom, e_isIn]
      refine m_waysC hT hi h1 h2 (fun v g1 g2 g3 g4 g5 => ?_)
      try simp (disch := omega) only [mw_gives, forall_eq, forall_eq', exists_eq_left, exists_eq_left', true_and, and_true, true_implies, false_implies, not_true_eq_false, not_false_eq_true, Prod.mk.injEq, Option.some.injEq, reduceCtorEq, and_self, implies_true, eq_self, Classical.not_not, and_false, false_and, ite_true, ite_false, reduceIte, bI_0, or_false, false_or, or_true, true_or, or_self, if_true, if_false, n_le_t, n_le_f, n_lt_t, n_lt_f, n_eq_t, n_eq_f, n_toInt, n_cl, n_vp, n_eqM, M_eqn, n_leM, n_ltM, M_len, M_ltn, M_add, n_sub, iM_toInt, x_lt_t, x_lt_f, x_le_t, x_le_f, lt_x_t, lt_x_f, le_x_t, le_x_f, x_eq_f, nI_add, pk_mul, bI_t, bI_f, Int32.toInt_toInt64, n_subI, x_add0, i_le_t, i_le_f, i_lt_t, i_lt_f, k_le_t, k_le_f, k_lt_t, k_lt_f, li_0, li_1, li_2, li_3, li_4, li_5, li_6, li_7, li_8, li_9, li_10, li_11, li_12, li_16, li_20, li_24, li_25, li_26, li_30, li_31, li_32, li_40, li_48, li_49, li_57, li_59, li_60, li_63, li_64, li_65, li_90, li_96, li_97, li_106, li_122, li_255, li_300, li_600, li_800, li_900, li_1850, li_2000, li_2010, li_2040, li_2801, li_3300, li_4161, li_9999, li_10163, li_16500, li_16800, li_17100, li_18350, li_18510, li_18540, li_65536, li_100000, li_999999, li_1000000, li_2147483647, im_1, im_8, ll_0, ll_1, ll_2, ll_3, ll_4, ll_6, ll_16, ll_20, ll_40, ll_63, ll_800, ll_9999, jm_same, jm_ob, jm_ok, jm_il, jm_li, jm_lsame, jm_lob, jm_lok, Nat.reduceAdd, Nat.reduceMul, Nat.zero_add, Nat.add_zero, Nat.mul_zero, Nat.zero_mul, e_mw_isSmall, e_mw_isDigit, e_mw_isDigit0, e_mw_isGreat, e_xs_isSmall, e_xs_isFigure, e_xs_isGreat, e_mw_isLetter, e_xs_isLetter, e_isBlank, e_xs_isBlank, e_isFrom, e_isIn]
      exact hP _ (QM.s (fun b k hs => ⟨g1 b k (fun z => hs (by unfold scr; omega)) (fun z => hs (by unfold scr; omega)) (fun z => hs (by unfold scr; omega)), g2 b k⟩) (by unfold scr; omega)) jm_same
  · refine ⟨iM, nI (rowO m x y 1), fun mc ms P hmc hms hP => ?_, fun P hP => ?_⟩
    · unfold xw0_ways
      refine ⟨k0, fun u2 e2 => ⟨a 14, by rw [e2]; exact p15, 100, 1000, by omega, by omega, ?_⟩⟩
      have e2 : u2 = xsi u (a 0) 7 (nI 0) := e2
      subst e2
      refine x_waysC hR1 p15 (fun w v e hne hq => ?_) (fun i' c' v e ex hi' em y1 y2 hq hv hf hW => ?_)
      · rw [eO] at e
        subst e
        refine x_none k0 k12 ?_
        have hq2 := QX.st (x := nI (rowO m x y 1)) (hq.st0.s (b := a 12) (k := 6) (x := nI (rowO m x y 1)) (by rw [o12]; unfold xsc; omega))
        exact hP K ow _ (XA.of hq2) (hR.vv hq2).to0.2 xi_same
      · exact absurd e hz
    · unfold mw_ways
      refine m_wrongRow (least := 1) hTr (by omega) ?_
      have hlt := rowO_lt (m := m) (x := x) (many := y) (least := 1)
      generalize rowO m x y 1 = w at hz hlt hP
      try simp (disch := omega) only [mw_refuse, forall_eq, forall_eq', exists_eq_left, exists_eq_left', true_and, and_true, true_implies, false_implies, not_true_eq_false, not_false_eq_true, Prod.mk.injEq, Option.some.injEq, reduceCtorEq, and_self, implies_true, eq_self, Classical.not_not, and_false, false_and, ite_true, ite_false, reduceIte, bI_0, or_false, false_or, or_true, true_or, or_self, if_true, if_false, n_le_t, n_le_f, n_lt_t, n_lt_f, n_eq_t, n_eq_f, n_toInt, n_cl, n_vp, n_eqM, M_eqn, n_leM, n_ltM, M_len, M_ltn, M_add, n_sub, iM_toInt, x_lt_t, x_lt_f, x_le_t, x_le_f, lt_x_t, lt_x_f, le_x_t, le_x_f, x_eq_f, nI_add, pk_mul, bI_t, bI_f, Int32.toInt_toInt64, n_subI, x_add0, i_le_t, i_le_f, i_lt_t, i_lt_f, k_le_t, k_le_f, k_lt_t, k_lt_f, li_0, li_1, li_2, li_3, li_4, li_5, li_6, li_7, li_8, li_9, li_10, li_11, li_12, li_16, li_20, li_24, li_25, li_26, li_30, li_31, li_32, li_40, li_48, li_49, li_57, li_59, li_60, li_63, li_64, li_65, li_90, li_96, li_97, li_106, li_122, li_255, li_300, li_600, li_800, li_900, li_1850, li_2000, li_2010, li_2040, li_2801, li_3300, li_4161, li_9999, li_10163, li_16500, li_16800, li_17100, li_18350, li_18510, li_18540, li_65536, li_100000, li_999999, li_1000000, li_2147483647, im_1, im_8, ll_0, ll_1, ll_2, ll_3, ll_4, ll_6, ll_16, ll_20, ll_40, ll_63, ll_800, ll_9999, jm_same, jm_ob, jm_ok, jm_il, jm_li, jm_lsame, jm_lob, jm_lok, Nat.reduceAdd, Nat.reduceMul, Nat.zero_add, Nat.add_zero, Nat.mul_zero, Nat.zero_mul, e_mw_isSmall, e_mw_isDigit, e_mw_isDigit0, e_mw_isGreat, e_xs_isSmall, e_xs_isFigure, e_xs_isGreat, e_mw_isLetter, e_xs_isLetter, e_isBlank, e_xs_isBlank, e_isFrom, e_isIn]
      exact hP _ (QM.s QM.refl (by unfold scr; omega)) jm_same
end XCB
