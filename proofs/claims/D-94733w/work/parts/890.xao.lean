/-! PLAIN LAW: a writing is set -/
set_option linter.unusedVariables false
theorem by_all : ∀ i : Fin 256, (((nI i.val - nI 128) &&& nI 255) = nI i.val - nI 128 ∧ 0 ≤ (nI i.val - nI 128).toInt) ∨ ((nI i.val - nI 128).toInt < 0 ∧ 128 ≤ ((nI i.val - nI 128) &&& nI 255).toInt) := by decide +kernel
theorem by_two {x : Int32} (h : inR x (-128) 127) : ((x &&& nI 255) = x ∧ 0 ≤ x.toInt) ∨ (x.toInt < 0 ∧ 128 ≤ (x &&& nI 255).toInt) := by
  obtain ⟨h1, h2⟩ := h
  have e : x = nI (x.toInt + 128).toNat - nI 128 := by
    rw [← Int32.toInt_inj, n_subI (by omega) (by omega)]
    omega
  have := by_all ⟨(x.toInt + 128).toNat, by omega⟩
  rw [e]
  exact this
theorem not_good {x : Int32} (h : x.toInt < 0 ∨ 128 ≤ x.toInt) : ¬ goodB x := fun g => by
  obtain ⟨h1, h2⟩ := goodB_lt g
  rw [h1, n_toInt (by omega)] at h
  omega
section XBO
variable {m n : MS}
def wrB (m : MS) (n : Nat) : Nat → Int32 := fun p => if p < n then jm_i m 5 p &&& nI 255 else nI 32
def wrF (m : MS) (k : Nat) (w : Nat → Int32) : Nat → Int32 := up w (300 + k) (jm_i m 5 k &&& nI 255)
def wrW (m : MS) (n : Nat) : Nat → Int32 := it (wrF m) (up (fun k => jm_i m 1 (16500 + k)) 7 (nI n)) n
theorem wrF_it {w : Nat → Int32} : ∀ n, n ≤ 300 → (it (wrF m) w n) 7 = w 7 ∧ ∀ k, k < n → (it (wrF m) w n) (300 + k) = jm_i m 5 k &&& nI 255
  | 0, _ => ⟨rfl, fun k hk => by omega⟩
  | n + 1, hn => by
    obtain ⟨h1, h2⟩ := wrF_it (w := w) n (by omega)
    rw [it_s]
    refine ⟨by unfold wrF; rw [up_n (by omega)]; exact h1, fun k hk => ?_⟩
    by_cases c : k = n
    · subst c; unfold wrF; rw [up_s]
    · unfold wrF; rw [up_n (by omega)]; exact h2 k (by omega)
theorem wr_WB {n : Nat} (hn : n ≤ 300) : WB (wrB m n) n (wrW m n) := by
  obtain ⟨h1, h2⟩ := wrF_it (m := m) (w := up (fun k => jm_i m 1 (16500 + k)) 7 (nI n)) n hn
  refine ⟨?_, hn, fun p hp => ?_, fun p hp => ?_⟩
  · show (it (wrF m) _ _) 7 = _
    rw [h1, up_s]
  · show (it (wrF m) _ _) (300 + p) = _
    rw [h2 p hp]; unfold wrB; rw [if_pos hp]
  · unfold wrB; rw [if_neg (by omega)]
/-- the component's bytes are the reference's, or neither can be set, for the same reason -/
theorem tape_two {h : Nat → Int32} {g : Int32} {n : Nat} (hT : WT h) (hn : n ≤ 300) (ht : ∀ k, k < n → inR (jm_i m 5 k) (-128) 127) : ∃ b w, WB b n w ∧ (∀ p, p < n → b p = jm_i m 5 p) ∧ (∀ p, n ≤ p → b p = nI 32) ∧ (setS h b g n w).1 = (setS h (wrB m n) g n (wrW m n)).1 ∧ ((setS h b g n w).1 = none → b = wrB m n ∧ w = wrW m n) := by
  have hW := wr_WB (m := m) hn
  by_cases hz : ∀ p, p < n → 0 ≤ (jm_i m 5 p).toInt
  · refine ⟨wrB m n, wrW m n, hW, fun p hp => ?_, hW.2.2.2, rfl, fun _ => ⟨rfl, rfl⟩⟩
    unfold wrB
    rw [if_pos hp]
    rcases by_two (ht p hp) with e | e
    · exact e.1
    · have := hz p hp; omega
  · have hex : ∃ p, p < n ∧ (jm_i m 5 p).toInt < 0 := by
      refine Classical.byContradiction (fun z => hz (fun p hp => ?_))
      by_cases c : (jm_i m 5 p).toInt < 0
      · exact absurd ⟨p, hp, c⟩ z
      · omega
    obtain ⟨p0, hp0, hn0⟩ := hex
    have hB : WB (fun p => if p < n then jm_i m 5 p else nI 32) n (fun k => if 300 ≤ k ∧ k < 300 + n then jm_i m 5 (k - 300) else wrW m n k) := by
      refine ⟨?_, hn, fun p hp => ?_, fun p hp => ?_⟩
      · show (if 300 ≤ 7 ∧ 7 < 300 + n then _ else _) = _
        rw [if_neg (by omega)]; exact hW.1
      · show (if 300 ≤ 300 + p ∧ 300 + p < 300 + n then _ else _) = (if p < n then _ else _)
        rw [if_pos (by omega), if_pos hp, Nat.add_sub_cancel_left]
      · show (if p < n then _ else _) = _
        rw [if_neg (by omega)]
    have h2 : B2 (fun p => if p < n then jm_i m 5 p else nI 32) (wrB m n) := fun p => by
      show (if p < n then _ else _) = wrB m n p ∨ (¬ goodB (if p < n then _ else _) ∧ ¬ goodB (wrB m n p))
      unfold wrB
      by_cases hp : p < n
      · simp only [if_pos hp]
        rcases by_two (ht p hp) with e | e
        · exact Or.inl e.1.symm
        · exact Or.inr ⟨not_good (Or.inl e.1), not_good (Or.inr e.2)⟩
      · simp only [if_neg hp]
        exact Or.inl trivial
    have hne : ∀ q, (setS h (fun p => if p < n then jm_i m 5 p else nI 32) g n (fun k => if 300 ≤ k ∧ k < 300 + n then jm_i m 5 (k - 300) else wrW m n k)).1 = none → q := fun q he => by
      have := (setS_ok hT hB he).2.2 p0 hp0
      have this : goodB (if p0 < n then jm_i m 5 p0 else nI 32) := this
      rw [if_pos hp0] at this
      exact absurd this (not_good (Or.inl hn0))
    refine ⟨_, _, hB, fun p hp => ?_, hB.2.2.2, (set_ind2 h2 _ _).1, fun he => hne _ he⟩
    show (if p < n then _ else _) = _
    rw [if_pos hp]
theorem mErr_s {e : Nat × Nat} : mErr m (some e) = jm_s (jm_s m 0 20 (nI e.1)) 0 21 (nI e.2) := rfl
theorem mErr_n : mErr m none = m := rfl
theorem mOk_s {e : Nat × Nat} : mOk (some e) = nI 0 := rfl
theorem mOk_n : mOk none = nI 1 := rfl
/-- the reference's memory once a writing's text is taken -/
def wr5 (m : MS) : MS := jm_s (jm_s (jm_s m 0 9 (nI 0)) 0 15 (nI 0)) 0 16 iM
theorem wr5_sl {i : Nat} : sl (wr5 m) i = sl m i := by
  unfold wr5
  rw [sl_so (by omega), sl_so (by omega), sl_so (by omega)]
set_option maxHeartbeats 4000000 in
theorem m_writing {n tn : Nat} {Q : Int32 → MS → Prop} (hT : WT (sl m 0)) (e9 : jm_i m 0 9 = nI tn) (hn : n ≤ tn) (htn : tn ≤ 900) (h300 : n ≤ 300)
    (hE : ∀ e w, (setS (sl m 0) (wrB m n) (sl m 0 6) n (wrW m n)).1 = some e → Q iM (jm_s (jm_s (jm_s (MK (mErr (wr5 m) (some e)) w) 0 15 (nI e.1)) 0 16 (nI e.2)) 0 1 (nI 9)))
    (hS : (setS (sl m 0) (wrB m n) (sl m 0 6) n (wrW m n)).1 = none → ∀ v, (∀ b k, ¬ (b = 1 ∧ k < 3300) → jm_i v b k = jm_i (MK (wr5 m) (setS (sl m 0) (wrB m n) (sl m 0 6) n (wrW m n)).2) b k) → (∀ b k, jm_l v b k = jm_l m b k) → sl v 0 = tkW (sl m 0) (setS (sl m 0) (wrB m n) (sl m 0 6) n (wrW m n)).2 → Q (jm_i v 1 8) (jm_s v 0 1 (nI 0))) : mw_writing (nI n) m Q := by
  have key : jm_s m 1 16507 (nI n) = MK m (up (fun k => jm_i m 1 (16500 + k)) 7 (nI n)) := by
    conv => lhs; rw [← MK_of m]
    rw [MK_s7]
  unfold mw_writing
  simp (disch := omega) only [e9, mw_isSet, mw_refuse, mw_gives, mw_is, mw_isRule, mw_ruleAt, mw_cellsOf, mw_cellAt, sl_of (m := m), forall_eq, forall_eq', exists_eq_left, exists_eq_left', true_and, and_true, true_implies, false_implies, not_true_eq_false, not_false_eq_true, Prod.mk.injEq, Option.some.injEq, reduceCtorEq, and_self, implies_true, eq_self, Classical.not_not, and_false, false_and, ite_true, ite_false, reduceIte, bI_0, or_false, false_or, or_true, true_or, or_self, if_true, if_false, n_le_t, n_le_f, n_lt_t, n_lt_f, n_eq_t, n_eq_f, n_toInt, n_cl, n_vp, n_eqM, M_eqn, n_leM, n_ltM, M_len, M_ltn, M_add, n_sub, iM_toInt, x_lt_t, x_lt_f, x_le_t, x_le_f, lt_x_t, lt_x_f, le_x_t, le_x_f, x_eq_f, nI_add, pk_mul, bI_t, bI_f, Int32.toInt_toInt64, n_subI, x_add0, i_le_t, i_le_f, i_lt_t, i_lt_f, k_le_t, k_le_f, k_lt_t, k_lt_f, li_0, li_1, li_2, li_3, li_4, li_5, li_6, li_7, li_8, li_9, li_10, li_11, li_12, li_16, li_20, li_24, li_25, li_26, li_30, li_31, li_32, li_40, li_48, li_49, li_57, li_59, li_60, li_63, li_64, li_65, li_90, li_96, li_97, li_106, li_122, li_255, li_300, li_600, li_800, li_900, li_1850, li_2000, li_2010, li_2040, li_2801, li_3300, li_4161, li_9999, li_10163, li_16500, li_16800, li_17100, li_18350, li_18510, li_18540, li_65536, li_100000, li_999999, li_1000000, li_2147483647, im_1, im_8, ll_0, ll_1, ll_2, ll_3, ll_4, ll_6, ll_16, ll_20, ll_40, ll_63, ll_800, ll_9999, jm_same, jm_ob, jm_ok, jm_il, jm_li, jm_lsame, jm_lob, jm_lok, Nat.reduceAdd, Nat.reduceMul, Nat.zero_add, Nat.add_zero, Nat.mul_zero, Nat.zero_mul, e_mw_isSmall, e_mw_isDigit, e_mw_isDigit0, e_mw_isGreat, e_xs_isSmall, e_xs_isFigure, e_xs_isGreat, e_mw_isLetter, e_xs_isLetter, e_isBlank, e_xs_isBlank, e_isFrom, e_isIn]
  rw [key]
  refine lp_up (fun q k => mw_writing_L36 Q (nI n) q (nI k) (MK m (it (wrF m) (up (fun k => jm_i m 1 (16500 + k)) 7 (nI n)) k))) n 0 (Nat.zero_le _) (fun q => ?_) (fun q k hk ih => ?_)
  · unfold mw_writing_L36 mw_writing_L36_S
    simp (disch := omega) only [MK_so, forall_eq, forall_eq', exists_eq_left, exists_eq_left', true_and, and_true, true_implies, false_implies, not_true_eq_false, not_false_eq_true, Prod.mk.injEq, Option.some.injEq, reduceCtorEq, and_self, implies_true, eq_self, Classical.not_not, and_false, false_and, ite_true, ite_false, reduceIte, bI_0, or_false, false_or, or_true, true_or, or_self, if_true, if_false, n_le_t, n_le_f, n_lt_t, n_lt_f, n_eq_t, n_eq_f, n_toInt, n_cl, n_vp, n_eqM, M_eqn, n_leM, n_ltM, M_len, M_ltn, M_add, n_sub, iM_toInt, x_lt_t, x_lt_f, x_le_t, x_le_f, lt_x_t, lt_x_f, le_x_t, le_x_f, x_eq_f, nI_add, pk_mul, bI_t, bI_f, Int32.toInt_toInt64, n_subI, x_add0, i_le_t, i_le_f, i_lt_t, i_lt_f, k_le_t, k_le_f, k_lt_t, k_lt_f, li_0, li_1, li_2, li_3, li_4, li_5, li_6, li_7, li_8, li_9, li_10, li_11, li_12, li_16, li_20, li_24, li_25, li_26, li_30, li_31, li_32, li_40, li_48, li_49, li_57, li_59, li_60, li_63, li_64, li_65, li_90, li_96, li_97, li_106, li_122, li_255, li_300, li_600, li_800, li_900, li_1850, li_2000, li_2010, li_2040, li_2801, li_3300, li_4161, li_9999, li_10163, li_16500, li_16800, li_17100, li_18350, li_18510, li_18540, li_65536, li_100000, li_999999, li_1000000, li_2147483647, im_1, im_8, ll_0, ll_1, ll_2, ll_3, ll_4, ll_6, ll_16, ll_20, ll_40, ll_63, ll_800, ll_9999, jm_same, jm_ob, jm_ok, jm_il, jm_li, jm_lsame, jm_lob, jm_lok, Nat.reduceAdd, Nat.reduceMul, Nat.zero_add, Nat.add_zero, Nat.mul_zero, Nat.zero_mul, e_mw_isSmall, e_mw_isDigit, e_mw_isDigit0, e_mw_isGreat, e_xs_isSmall, e_xs_isFigure, e_xs_isGreat, e_mw_isLetter, e_xs_isLetter, e_isBlank, e_xs_isBlank, e_isFrom, e_isIn]
    show mw_setsAll (jm_i (MK (wr5 m) (wrW m n)) 1 6) (MK (wr5 m) (wrW m n)) _
    rw [MK_tab (by omega), wr5_sl]
    refine m_setsAll (b := wrB m n) (bn := n) (by rw [wr5_sl]; exact hT) (wr_WB h300) ?_
    rw [wr5_sl]
    cases he : (setS (sl m 0) (wrB m n) (sl m 0 6) n (wrW m n)).1 with
    | none =>
      have hS2 := hS he
      simp (disch := omega) only [mOk_n, mErr_n, forall_eq, forall_eq', exists_eq_left, exists_eq_left', true_and, and_true, true_implies, false_implies, not_true_eq_false, not_false_eq_true, Prod.mk.injEq, Option.some.injEq, reduceCtorEq, and_self, implies_true, eq_self, Classical.not_not, and_false, false_and, ite_true, ite_false, reduceIte, bI_0, or_false, false_or, or_true, true_or, or_self, if_true, if_false, n_le_t, n_le_f, n_lt_t, n_lt_f, n_eq_t, n_eq_f, n_toInt, n_cl, n_vp, n_eqM, M_eqn, n_leM, n_ltM, M_len, M_ltn, M_add, n_sub, iM_toInt, x_lt_t, x_lt_f, x_le_t, x_le_f, lt_x_t, lt_x_f, le_x_t, le_x_f, x_eq_f, nI_add, pk_mul, bI_t, bI_f, Int32.toInt_toInt64, n_subI, x_add0, i_le_t, i_le_f, i_lt_t, i_lt_f, k_le_t, k_le_f, k_lt_t, k_lt_f, li_0, li_1, li_2, li_3, li_4, li_5, li_6, li_7, li_8, li_9, li_10, li_11, li_12, li_16, li_20, li_24, li_25, li_26, li_30, li_31, li_32, li_40, li_48, li_49, li_57, li_59, li_60, li_63, li_64, li_65, li_90, li_96, li_97, li_106, li_122, li_255, li_300, li_600, li_800, li_900, li_1850, li_2000, li_2010, li_2040, li_2801, li_3300, li_4161, li_9999, li_10163, li_16500, li_16800, li_17100, li_18350, li_18510, li_18540, li_65536, li_100000, li_999999, li_1000000, li_2147483647, im_1, im_8, ll_0, ll_1, ll_2, ll_3, ll_4, ll_6, ll_16, ll_20, ll_40, ll_63, ll_800, ll_9999, jm_same, jm_ob, jm_ok, jm_il, jm_li, jm_lsame, jm_lob, jm_lok, Nat.reduceAdd, Nat.reduceMul, Nat.zero_add, Nat.add_zero, Nat.mul_zero, Nat.zero_mul, e_mw_isSmall, e_mw_isDigit, e_mw_isDigit0, e_mw_isGreat, e_xs_isSmall, e_xs_isFigure, e_xs_isGreat, e_mw_isLetter, e_xs_isLetter, e_isBlank, e_xs_isBlank, e_isFrom, e_isIn]
      refine m_takesSet (fun v h1 h2 h3 => ?_)
      rw [wr5_sl] at h3
      simp (disch := omega) only [mw_gives, forall_eq, forall_eq', exists_eq_left, exists_eq_left', true_and, and_true, true_implies, false_implies, not_true_eq_false, not_false_eq_true, Prod.mk.injEq, Option.some.injEq, reduceCtorEq, and_self, implies_true, eq_self, Classical.not_not, and_false, false_and, ite_true, ite_false, reduceIte, bI_0, or_false, false_or, or_true, true_or, or_self, if_true, if_false, n_le_t, n_le_f, n_lt_t, n_lt_f, n_eq_t, n_eq_f, n_toInt, n_cl, n_vp, n_eqM, M_eqn, n_leM, n_ltM, M_len, M_ltn, M_add, n_sub, iM_toInt, x_lt_t, x_lt_f, x_le_t, x_le_f, lt_x_t, lt_x_f, le_x_t, le_x_f, x_eq_f, nI_add, pk_mul, bI_t, bI_f, Int32.toInt_toInt64, n_subI, x_add0, i_le_t, i_le_f, i_lt_t, i_lt_f, k_le_t, k_le_f, k_lt_t, k_lt_f, li_0, li_1, li_2, li_3, li_4, li_5, li_6, li_7, li_8, li_9, li_10, li_11, li_12, li_16, li_20, li_24, li_25, li_26, li_30, li_31, li_32, li_40, li_48, li_49, li_57, li_59, li_60, li_63, li_64, li_65, li_90, li_96, li_97, li_106, li_122, li_255, li_300, li_600, li_800, li_900, li_1850, li_2000, li_2010, li_2040, li_2801, li_3300, li_4161, li_9999, li_10163, li_16500, li_16800, li_17100, li_18350, li_18510, li_18540, li_65536, li_100000, li_999999, li_1000000, li_2147483647, im_1, im_8, ll_0, ll_1, ll_2, ll_3, ll_4, ll_6, ll_16, ll_20, ll_40, ll_63, ll_800, ll_9999, jm_same, jm_ob, jm_ok, jm_il, jm_li, jm_lsame, jm_lob, jm_lok, Nat.reduceAdd, Nat.reduceMul, Nat.zero_add, Nat.add_zero, Nat.mul_zero, Nat.zero_mul, e_mw_isSmall, e_mw_isDigit, e_mw_isDigit0, e_mw_isGreat, e_xs_isSmall, e_xs_isFigure, e_xs_isGreat, e_mw_isLetter, e_xs_isLetter, e_isBlank, e_xs_isBlank, e_isFrom, e_isIn]
      exact hS2 v h1 h2 h3
    | some e =>
      have hE2 := hE e (setS (sl m 0) (wrB m n) (sl m 0 6) n (wrW m n)).2 he
      simp (disch := omega) only [mOk_s, mErr_s, mw_refuse, MK_b, forall_eq, forall_eq', exists_eq_left, exists_eq_left', true_and, and_true, true_implies, false_implies, not_true_eq_false, not_false_eq_true, Prod.mk.injEq, Option.some.injEq, reduceCtorEq, and_self, implies_true, eq_self, Classical.not_not, and_false, false_and, ite_true, ite_false, reduceIte, bI_0, or_false, false_or, or_true, true_or, or_self, if_true, if_false, n_le_t, n_le_f, n_lt_t, n_lt_f, n_eq_t, n_eq_f, n_toInt, n_cl, n_vp, n_eqM, M_eqn, n_leM, n_ltM, M_len, M_ltn, M_add, n_sub, iM_toInt, x_lt_t, x_lt_f, x_le_t, x_le_f, lt_x_t, lt_x_f, le_x_t, le_x_f, x_eq_f, nI_add, pk_mul, bI_t, bI_f, Int32.toInt_toInt64, n_subI, x_add0, i_le_t, i_le_f, i_lt_t, i_lt_f, k_le_t, k_le_f, k_lt_t, k_lt_f, li_0, li_1, li_2, li_3, li_4, li_5, li_6, li_7, li_8, li_9, li_10, li_11, li_12, li_16, li_20, li_24, li_25, li_26, li_30, li_31, li_32, li_40, li_48, li_49, li_57, li_59, li_60, li_63, li_64, li_65, li_90, li_96, li_97, li_106, li_122, li_255, li_300, li_600, li_800, li_900, li_1850, li_2000, li_2010, li_2040, li_2801, li_3300, li_4161, li_9999, li_10163, li_16500, li_16800, li_17100, li_18350, li_18510, li_18540, li_65536, li_100000, li_999999, li_1000000, li_2147483647, im_1, im_8, ll_0, ll_1, ll_2, ll_3, ll_4, ll_6, ll_16, ll_20, ll_40, ll_63, ll_800, ll_9999, jm_same, jm_ob, jm_ok, jm_il, jm_li, jm_lsame, jm_lob, jm_lok, Nat.reduceAdd, Nat.reduceMul, Nat.zero_add, Nat.add_zero, Nat.mul_zero, Nat.zero_mul, e_mw_isSmall, e_mw_isDigit, e_mw_isDigit0, e_mw_isGreat, e_xs_isSmall, e_xs_isFigure, e_xs_isGreat, e_mw_isLetter, e_xs_isLetter, e_isBlank, e_xs_isBlank, e_isFrom, e_isIn]
      simp (disch := omega) only [mErr_s, forall_eq, forall_eq', exists_eq_left, exists_eq_left', true_and, and_true, true_implies, false_implies, not_true_eq_false, not_false_eq_true, Prod.mk.injEq, Option.some.injEq, reduceCtorEq, and_self, implies_true, eq_self, Classical.not_not, and_false, false_and, ite_true, ite_false, reduceIte, bI_0, or_false, false_or, or_true, true_or, or_self, if_true, if_false, n_le_t, n_le_f, n_lt_t, n_lt_f, n_eq_t, n_eq_f, n_toInt, n_cl, n_vp, n_eqM, M_eqn, n_leM, n_ltM, M_len, M_ltn, M_add, n_sub, iM_toInt, x_lt_t, x_lt_f, x_le_t, x_le_f, lt_x_t, lt_x_f, le_x_t, le_x_f, x_eq_f, nI_add, pk_mul, bI_t, bI_f, Int32.toInt_toInt64, n_subI, x_add0, i_le_t, i_le_f, i_lt_t, i_lt_f, k_le_t, k_le_f, k_lt_t, k_lt_f, li_0, li_1, li_2, li_3, li_4, li_5, li_6, li_7, li_8, li_9, li_10, li_11, li_12, li_16, li_20, li_24, li_25, li_26, li_30, li_31, li_32, li_40, li_48, li_49, li_57, li_59, li_60, li_63, li_64, li_65, li_90, li_96, li_97, li_106, li_122, li_255, li_300, li_600, li_800, li_900, li_1850, li_2000, li_2010, li_2040, li_2801, li_3300, li_4161, li_9999, li_10163, li_16500, li_16800, li_17100, li_18350, li_18510, li_18540, li_65536, li_100000, li_999999, li_1000000, li_2147483647, im_1, im_8, ll_0, ll_1, ll_2, ll_3, ll_4, ll_6, ll_16, ll_20, ll_40, ll_63, ll_800, ll_9999, jm_same, jm_ob, jm_ok, jm_il, jm_li, jm_lsame, jm_lob, jm_lok, Nat.reduceAdd, Nat.reduceMul, Nat.zero_add, Nat.add_zero, Nat.mul_zero, Nat.zero_mul, e_mw_isSmall, e_mw_isDigit, e_mw_isDigit0, e_mw_isGreat, e_xs_isSmall, e_xs_isFigure, e_xs_isGreat, e_mw_isLetter, e_xs_isLetter, e_isBlank, e_xs_isBlank, e_isFrom, e_isIn] at hE2
      exact hE2
  · rw [it_s] at ih
    unfold mw_writing_L36 mw_writing_L36_S
    simp (disch := omega) only [MK_b, MK_s300, forall_eq, forall_eq', exists_eq_left, exists_eq_left', true_and, and_true, true_implies, false_implies, not_true_eq_false, not_false_eq_true, Prod.mk.injEq, Option.some.injEq, reduceCtorEq, and_self, implies_true, eq_self, Classical.not_not, and_false, false_and, ite_true, ite_false, reduceIte, bI_0, or_false, false_or, or_true, true_or, or_self, if_true, if_false, n_le_t, n_le_f, n_lt_t, n_lt_f, n_eq_t, n_eq_f, n_toInt, n_cl, n_vp, n_eqM, M_eqn, n_leM, n_ltM, M_len, M_ltn, M_add, n_sub, iM_toInt, x_lt_t, x_lt_f, x_le_t, x_le_f, lt_x_t, lt_x_f, le_x_t, le_x_f, x_eq_f, nI_add, pk_mul, bI_t, bI_f, Int32.toInt_toInt64, n_subI, x_add0, i_le_t, i_le_f, i_lt_t, i_lt_f, k_le_t, k_le_f, k_lt_t, k_lt_f, li_0, li_1, li_2, li_3, li_4, li_5, li_6, li_7, li_8, li_9, li_10, li_11, li_12, li_16, li_20, li_24, li_25, li_26, li_30, li_31, li_32, li_40, li_48, li_49, li_57, li_59, li_60, li_63, li_64, li_65, li_90, li_96, li_97, li_106, li_122, li_255, li_300, li_600, li_800, li_900, li_1850, li_2000, li_2010, li_2040, li_2801, li_3300, li_4161, li_9999, li_10163, li_16500, li_16800, li_17100, li_18350, li_18510, li_18540, li_65536, li_100000, li_999999, li_1000000, li_2147483647, im_1, im_8, ll_0, ll_1, ll_2, ll_3, ll_4, ll_6, ll_16, ll_20, ll_40, ll_63, ll_800, ll_9999, jm_same, jm_ob, jm_ok, jm_il, jm_li, jm_lsame, jm_lob, jm_lok, Nat.reduceAdd, Nat.reduceMul, Nat.zero_add, Nat.add_zero, Nat.mul_zero, Nat.zero_mul, e_mw_isSmall, e_mw_isDigit, e_mw_isDigit0, e_mw_isGreat, e_xs_isSmall, e_xs_isFigure, e_xs_isGreat, e_mw_isLetter, e_xs_isLetter, e_isBlank, e_xs_isBlank, e_isFrom, e_isIn]
    exact ih
end XBO
