/-! PLAIN LAW: the latest writing set without some rules; what is set is taken -/
set_option linter.unusedVariables false
def lbF (h : Nat → Int32) (k : Nat) (w : Nat → Int32) : Nat → Int32 := up w (300 + k) (h (300 + k))
/-- the working slot once the latest writing's bytes lie in it -/
def lbS (m : MS) : Nat → Int32 := it (lbF (sl m 0)) (up (fun k => jm_i m 1 (16500 + k)) 7 (sl m 0 7)) (hN (sl m 0) 7)
theorem lbF_it {h w : Nat → Int32} : ∀ n, n ≤ 300 → (it (lbF h) w n) 7 = w 7 ∧ ∀ k, k < n → (it (lbF h) w n) (300 + k) = h (300 + k)
  | 0, _ => ⟨rfl, fun k hk => by omega⟩
  | n + 1, hn => by
    obtain ⟨h1, h2⟩ := lbF_it (h := h) (w := w) n (by omega)
    rw [it_s]
    refine ⟨by unfold lbF; rw [up_n (by omega)]; exact h1, fun k hk => ?_⟩
    by_cases c : k = n
    · subst c; unfold lbF; rw [up_s]
    · unfold lbF; rw [up_n (by omega)]; exact h2 k (by omega)
theorem lbS_WB {m : MS} (hW : WWs (sl m 0)) : WB (bO (sl m 0)) (hN (sl m 0) 7) (lbS m) := by
  obtain ⟨⟨w7, w7l⟩, _⟩ := hW
  obtain ⟨h1, h2⟩ := lbF_it (h := sl m 0) (w := up (fun k => jm_i m 1 (16500 + k)) 7 (sl m 0 7)) (hN (sl m 0) 7) w7l
  refine ⟨?_, w7l, fun p hp => ?_, fun p hp => ?_⟩
  · show (it (lbF (sl m 0)) _ _) 7 = _
    rw [h1, up_s]; exact w7
  · show (it (lbF (sl m 0)) _ _) (300 + p) = _
    rw [h2 p hp]; unfold bO; rw [if_pos hp]
  · unfold bO; rw [if_neg (by omega)]
set_option maxHeartbeats 4000000 in
theorem m_laysBytes {m : MS} {P : MS → Prop} (hW : WWs (sl m 0)) (hP : P (MK m (lbS m))) : mw_laysBytes m P := by
  obtain ⟨⟨w7, w7l⟩, _⟩ := id hW
  have key : jm_s m 1 16507 (jm_i m 1 7) = MK m (up (fun k => jm_i m 1 (16500 + k)) 7 (sl m 0 7)) := by
    conv => lhs; rw [← MK_of m]
    rw [MK_s7, MK_lo (by omega), sl_of (by omega)]
  unfold mw_laysBytes
  rw [key]
  simp (disch := omega) only [forall_eq, forall_eq', exists_eq_left, exists_eq_left', true_and, and_true, true_implies, false_implies, not_true_eq_false, not_false_eq_true, Prod.mk.injEq, Option.some.injEq, reduceCtorEq, and_self, implies_true, eq_self, Classical.not_not, and_false, false_and, ite_true, ite_false, reduceIte, bI_0, or_false, false_or, or_true, true_or, or_self, if_true, if_false, n_le_t, n_le_f, n_lt_t, n_lt_f, n_eq_t, n_eq_f, n_toInt, n_cl, n_vp, n_eqM, M_eqn, n_leM, n_ltM, M_len, M_ltn, M_add, n_sub, iM_toInt, x_lt_t, x_lt_f, x_le_t, x_le_f, lt_x_t, lt_x_f, le_x_t, le_x_f, x_eq_f, nI_add, pk_mul, bI_t, bI_f, Int32.toInt_toInt64, n_subI, x_add0, i_le_t, i_le_f, i_lt_t, i_lt_f, k_le_t, k_le_f, k_lt_t, k_lt_f, li_0, li_1, li_2, li_3, li_4, li_5, li_6, li_7, li_8, li_9, li_10, li_11, li_12, li_16, li_20, li_24, li_25, li_26, li_30, li_31, li_32, li_40, li_48, li_49, li_57, li_59, li_60, li_63, li_64, li_65, li_90, li_96, li_97, li_106, li_122, li_255, li_300, li_600, li_800, li_900, li_1850, li_2000, li_2010, li_2040, li_2801, li_3300, li_4161, li_9999, li_10163, li_16500, li_16800, li_17100, li_18350, li_18510, li_18540, li_65536, li_100000, li_999999, li_1000000, li_2147483647, im_1, im_8, ll_0, ll_1, ll_2, ll_3, ll_4, ll_6, ll_16, ll_20, ll_40, ll_63, ll_800, ll_9999, jm_same, jm_ob, jm_ok, jm_il, jm_li, jm_lsame, jm_lob, jm_lok, Nat.reduceAdd, Nat.reduceMul, Nat.zero_add, Nat.add_zero, Nat.mul_zero, Nat.zero_mul, e_mw_isSmall, e_mw_isDigit, e_mw_isDigit0, e_mw_isGreat, e_xs_isSmall, e_xs_isFigure, e_xs_isGreat, e_mw_isLetter, e_xs_isLetter, e_isBlank, e_xs_isBlank, e_isFrom, e_isIn]
  refine lp_up (fun n k => mw_laysBytes_L17 P n (nI k) (MK m (it (lbF (sl m 0)) (up (fun k => jm_i m 1 (16500 + k)) 7 (sl m 0 7)) k))) (hN (sl m 0) 7) 0 (Nat.zero_le _) (fun n => ?_) (fun n k hk ih => ?_)
  · unfold mw_laysBytes_L17 mw_laysBytes_L17_S
    rw [MK_tab (by omega), w7]
    simp (disch := omega) only [forall_eq, forall_eq', exists_eq_left, exists_eq_left', true_and, and_true, true_implies, false_implies, not_true_eq_false, not_false_eq_true, Prod.mk.injEq, Option.some.injEq, reduceCtorEq, and_self, implies_true, eq_self, Classical.not_not, and_false, false_and, ite_true, ite_false, reduceIte, bI_0, or_false, false_or, or_true, true_or, or_self, if_true, if_false, n_le_t, n_le_f, n_lt_t, n_lt_f, n_eq_t, n_eq_f, n_toInt, n_cl, n_vp, n_eqM, M_eqn, n_leM, n_ltM, M_len, M_ltn, M_add, n_sub, iM_toInt, x_lt_t, x_lt_f, x_le_t, x_le_f, lt_x_t, lt_x_f, le_x_t, le_x_f, x_eq_f, nI_add, pk_mul, bI_t, bI_f, Int32.toInt_toInt64, n_subI, x_add0, i_le_t, i_le_f, i_lt_t, i_lt_f, k_le_t, k_le_f, k_lt_t, k_lt_f, li_0, li_1, li_2, li_3, li_4, li_5, li_6, li_7, li_8, li_9, li_10, li_11, li_12, li_16, li_20, li_24, li_25, li_26, li_30, li_31, li_32, li_40, li_48, li_49, li_57, li_59, li_60, li_63, li_64, li_65, li_90, li_96, li_97, li_106, li_122, li_255, li_300, li_600, li_800, li_900, li_1850, li_2000, li_2010, li_2040, li_2801, li_3300, li_4161, li_9999, li_10163, li_16500, li_16800, li_17100, li_18350, li_18510, li_18540, li_65536, li_100000, li_999999, li_1000000, li_2147483647, im_1, im_8, ll_0, ll_1, ll_2, ll_3, ll_4, ll_6, ll_16, ll_20, ll_40, ll_63, ll_800, ll_9999, jm_same, jm_ob, jm_ok, jm_il, jm_li, jm_lsame, jm_lob, jm_lok, Nat.reduceAdd, Nat.reduceMul, Nat.zero_add, Nat.add_zero, Nat.mul_zero, Nat.zero_mul, e_mw_isSmall, e_mw_isDigit, e_mw_isDigit0, e_mw_isGreat, e_xs_isSmall, e_xs_isFigure, e_xs_isGreat, e_mw_isLetter, e_xs_isLetter, e_isBlank, e_xs_isBlank, e_isFrom, e_isIn]
    unfold lbS at hP
    rw [w7] at hP
    exact hP
  · rw [it_s, w7] at ih
    unfold mw_laysBytes_L17 mw_laysBytes_L17_S
    rw [MK_tab (by omega), w7]
    simp (disch := omega) only [MK_tab, MK_s300, forall_eq, forall_eq', exists_eq_left, exists_eq_left', true_and, and_true, true_implies, false_implies, not_true_eq_false, not_false_eq_true, Prod.mk.injEq, Option.some.injEq, reduceCtorEq, and_self, implies_true, eq_self, Classical.not_not, and_false, false_and, ite_true, ite_false, reduceIte, bI_0, or_false, false_or, or_true, true_or, or_self, if_true, if_false, n_le_t, n_le_f, n_lt_t, n_lt_f, n_eq_t, n_eq_f, n_toInt, n_cl, n_vp, n_eqM, M_eqn, n_leM, n_ltM, M_len, M_ltn, M_add, n_sub, iM_toInt, x_lt_t, x_lt_f, x_le_t, x_le_f, lt_x_t, lt_x_f, le_x_t, le_x_f, x_eq_f, nI_add, pk_mul, bI_t, bI_f, Int32.toInt_toInt64, n_subI, x_add0, i_le_t, i_le_f, i_lt_t, i_lt_f, k_le_t, k_le_f, k_lt_t, k_lt_f, li_0, li_1, li_2, li_3, li_4, li_5, li_6, li_7, li_8, li_9, li_10, li_11, li_12, li_16, li_20, li_24, li_25, li_26, li_30, li_31, li_32, li_40, li_48, li_49, li_57, li_59, li_60, li_63, li_64, li_65, li_90, li_96, li_97, li_106, li_122, li_255, li_300, li_600, li_800, li_900, li_1850, li_2000, li_2010, li_2040, li_2801, li_3300, li_4161, li_9999, li_10163, li_16500, li_16800, li_17100, li_18350, li_18510, li_18540, li_65536, li_100000, li_999999, li_1000000, li_2147483647, im_1, im_8, ll_0, ll_1, ll_2, ll_3, ll_4, ll_6, ll_16, ll_20, ll_40, ll_63, ll_800, ll_9999, jm_same, jm_ob, jm_ok, jm_il, jm_li, jm_lsame, jm_lob, jm_lok, Nat.reduceAdd, Nat.reduceMul, Nat.zero_add, Nat.add_zero, Nat.mul_zero, Nat.zero_mul, e_mw_isSmall, e_mw_isDigit, e_mw_isDigit0, e_mw_isGreat, e_xs_isSmall, e_xs_isFigure, e_xs_isGreat, e_mw_isLetter, e_xs_isLetter, e_isBlank, e_xs_isBlank, e_isFrom, e_isIn]
    exact ih
theorem lbS_QM {m : MS} {w : Nat → Int32} : QM m (MK m w) := fun b k q => by
  refine ⟨?_, MK_l⟩
  by_cases c : b = 1
  · subst c; exact MK_lo (by unfold scr at q; omega)
  · exact MK_b c
theorem QM.err {m : MS} {w : Nat → Int32} : ∀ e, QM m (MK (mErr m e) w)
  | none => lbS_QM
  | some e => fun b k q => by
    refine ⟨?_, MK_l⟩
    by_cases c : b = 1
    · subst c
      rw [MK_lo (by unfold scr at q; omega)]
      simp [mErr, jm_i, jm_s]
    · rw [MK_b c]
      have h1 : ¬ (b = 0 ∧ k = 20) := fun z => q (by unfold scr; omega)
      have h2 : ¬ (b = 0 ∧ k = 21) := fun z => q (by unfold scr; omega)
      simp only [mErr, jm_i, jm_s, if_neg h1, if_neg h2]
/-- how many cells it takes; none -/
def tbV (r : RS) : Int32 := match r.1 with | some _ => iM | none => r.2 8
theorem m_takesBy {m : MS} {g : Int32} {P : Int32 → MS → Prop} (hT : WT (sl m 0)) (hW : WWs (sl m 0))
    (hP : ∀ n, QM m n → P (tbV (setS (sl m 0) (bO (sl m 0)) g (hN (sl m 0) 7) (lbS m))) n) : mw_takesBy g m P := by
  unfold mw_takesBy
  refine m_laysBytes hW (m_setsAll hT (lbS_WB hW) ?_)
  have hq := fun w => QM.err (m := m) (w := w) (setS (sl m 0) (bO (sl m 0)) g (hN (sl m 0) 7) (lbS m)).1
  cases he : (setS (sl m 0) (bO (sl m 0)) g (hN (sl m 0) 7) (lbS m)).1 with
  | none =>
    rw [he] at hq
    have hr : tbV (setS (sl m 0) (bO (sl m 0)) g (hN (sl m 0) 7) (lbS m)) = (setS (sl m 0) (bO (sl m 0)) g (hN (sl m 0) 7) (lbS m)).2 8 := by unfold tbV; rw [he]
    rw [hr] at hP
    refine ⟨fun z => absurd z (by decide), fun _ => ?_⟩
    rw [MK_8]
    exact hP _ (hq _)
  | some e =>
    rw [he] at hq
    have hr : tbV (setS (sl m 0) (bO (sl m 0)) g (hN (sl m 0) 7) (lbS m)) = iM := by unfold tbV; rw [he]
    rw [hr] at hP
    refine ⟨fun _ => hP _ (hq _), fun z => absurd (by unfold mOk; rfl) z⟩
section XAM
variable {a : Nat → Nat} {K : XK} {ow : Nat → Nat} {u : XS} {m : MS}
theorem bO_xBy {h : Nat → Int32} {q0 : Nat} (hW : WWs h) (kq : K q0 = (3, hN h 7)) (oq : ow q0 = 100) (v0 : ∀ k, k < hN h 7 → xi u q0 k = h (300 + k)) : xBy K ow u q0 (bO h) (hN h 7) := by
  obtain ⟨⟨w7, w7l⟩, _⟩ := hW
  exact ⟨⟨_, kq, Nat.le_refl _, by omega⟩, by omega, w7l, fun p hp => by rw [v0 p hp]; unfold bO; rw [if_pos hp], fun p hp => by unfold bO; rw [if_neg (by omega)]⟩
end XAM
