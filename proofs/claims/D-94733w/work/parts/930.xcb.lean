/-! PLAIN LAW: truths: a reading's text set again, the reference -/
set_option linter.unusedVariables false
/-- how long the text of the rules that are tried is; the text -/
def ptX (h : Nat → Int32) (T : Nat → Nat) : Nat → Nat × (Nat → Int32)
  | 0 => (0, fun _ => nI 0)
  | l + 1 => ((ptX h T l).1 + hN h (12 + 12 * T l), apB h (ptX h T l).2 (ptX h T l).1 (T l))
theorem ptX_c {h : Nat → Int32} {T T2 : Nat → Nat} : ∀ l, (∀ j, j < l → T j = T2 j) → ptX h T l = ptX h T2 l
  | 0, _ => rfl
  | l + 1, hj => by
    have e := ptX_c (h := h) l (fun j hj2 => hj j (by omega))
    have e2 := hj l (by omega)
    unfold ptX
    rw [e, e2]
theorem ptX_le {h : Nat → Int32} {T : Nat → Nat} (hT : WT h) : ∀ l, (∀ j, j < l → T j < hN h 0) → (ptX h T l).1 ≤ 6 * l
  | 0, _ => Nat.le_refl _
  | l + 1, hj => by
    have h1 := ptX_le hT l (fun j hj2 => hj j (by omega))
    have h2 := (hT.2.2.2.2.2.2 (T l) (hj l (by omega))).1.2.2
    show (ptX h T l).1 + hN h (12 + 12 * T l) ≤ _
    omega
theorem le_97 {x : Nat} : (nI 97 + nI x) - nI 1 = nI (96 + x) := by
  rw [nI_add, n_sub (by omega)]
  congr 1
  omega
section TRC
variable {n m : MS} {A : Nat → Int32} {T : Nat → Nat}
set_option maxHeartbeats 8000000 in
theorem m_isTrue {L many : Nat} {P : Int32 → MS → Prop} (hT : WT (sl m 0)) (hq : QM m n) (hm : many ≤ 20) (hL : L ≤ 20) (hTr : ∀ j, j < L → jm_i n 18 j = nI (T j) ∧ T j < hN (sl m 0) 0) (hA : ∀ k, k < many → jm_i n 14 k = A k)
    (hP : ∀ v, (∀ b k, ¬ (b = 1 ∧ 13200 ≤ k) → ¬ (b = 0 ∧ (k = 20 ∨ k = 21)) → jm_i v b k = jm_i n b k) → (∀ b k, jm_l v b k = jm_l n b k) → P (cI (isTr (sl m 0) A many (ptX (sl m 0) T L).2 (ptX (sl m 0) T L).1) (nI 1) (nI 0)) v) : mw_isTrue (nI L) (nI many) n P := by
  have hsl : sl n 0 = sl m 0 := QM_sl hq (by omega)
  have hle := fun l (hl : l ≤ L) => ptX_le (h := sl m 0) (T := T) hT l (fun j hj => (hTr j (by omega)).2)
  unfold mw_isTrue
  rw [← MK_of n]
  have out := lp_st (fun f l w => mw_isTrue_L5 P (nI L) (nI many) f (nI (ptX (sl m 0) T l).1) (nI l) (MK n w)) (fun l w => ∀ k, k < (ptX (sl m 0) T l).1 → w (300 + k) = (ptX (sl m 0) T l).2 k) L 0 (fun k => jm_i n 1 (16500 + k)) (Nat.zero_le _) (fun k hk => absurd hk (Nat.not_lt_zero _)) (fun f w hI => ?_) (fun f l w hl hI ih => ?_)
  · exact out
  · have hl := hle L (Nat.le_refl _)
    generalize ptX (sl m 0) T L = pb at hI hl hP ⊢
    obtain ⟨e, b⟩ := pb
    unfold mw_isTrue_L5 mw_isTrue_L5_S
    refine ⟨fun _ u89 e89 => ?_, fun z => absurd (Int32.le_refl _) z⟩
    rw [MK_s7] at e89
    subst e89
    have g6 : jm_i (MK n (up w 7 (nI e))) 1 6 = sl m 0 6 := by rw [MK_tab (by omega), hsl]
    have hB : WB (ctB b e) e (up w 7 (nI e)) := ⟨up_s, by show e ≤ 300; have : e ≤ 6 * L := hl; omega, fun p hp => by rw [up_n (by omega), hI p hp, ctB_i hp], fun p hp => ctB_e hp⟩
    rw [g6]
    refine m_setsAll (by rw [hsl]; exact hT) hB ?_
    rw [hsl]
    have fr : ∀ (er : Option (Nat × Nat)) (w2 : Nat → Int32), (∀ b k, ¬ (b = 1 ∧ 13200 ≤ k) → ¬ (b = 0 ∧ (k = 20 ∨ k = 21)) → jm_i (MK (mErr n er) w2) b k = jm_i n b k) ∧ ∀ b k, jm_l (MK (mErr n er) w2) b k = jm_l n b k := fun er w2 => by
      refine ⟨fun b k h1 h2 => ?_, fun b k => ?_⟩
      · by_cases c : b = 1
        · subst c
          rw [MK_lo (by omega)]
          cases er with
          | none => rfl
          | some er => simp [mErr, jm_i, jm_s]
        · rw [MK_b c]
          cases er with
          | none => rfl
          | some er =>
            have h3 : ¬ (b = 0 ∧ k = 20) := fun z => h2 (by omega)
            have h4 : ¬ (b = 0 ∧ k = 21) := fun z => h2 (by omega)
            simp only [mErr, jm_i, jm_s, if_neg h3, if_neg h4]
      · cases er <;> rfl
    have hw := isTr_w (A := A) (b := b) (e := e) hT hB hm
    cases he : (setS (sl m 0) (ctB b e) (sl m 0 6) e (up w 7 (nI e))).1 with
    | some er =>
      have hP2 := hP _ (fr (some er) (setS (sl m 0) (ctB b e) (sl m 0 6) e (up w 7 (nI e))).2).1 (fr _ _).2
      rw [cI_f (fun z => by have := (hw.mp z).1; rw [he] at this; simp at this)] at hP2
      exact ⟨fun _ => hP2, fun z => absurd (show mOk (some er) = 0 from rfl) z⟩
    | none =>
      have hP2 := hP _ (fr none (setS (sl m 0) (ctB b e) (sl m 0 6) e (up w 7 (nI e))).2).1 (fr _ _).2
      refine ⟨fun z => absurd z (by decide), fun _ => ⟨fun c8 => ?_, fun c8 => ?_⟩⟩
      · rw [MK_8] at c8
        have c8' : (setS (sl m 0) (ctB b e) (sl m 0 6) e (up w 7 (nI e))).2 8 = nI many := c8
        have hA2 : ∀ k, k < many → jm_i (MK (mErr n none) (setS (sl m 0) (ctB b e) (sl m 0 6) e (up w 7 (nI e))).2) 14 k = A k := fun k hk => by rw [MK_b (by omega)]; exact hA k hk
        generalize (setS (sl m 0) (ctB b e) (sl m 0 6) e (up w 7 (nI e))).2 = w2 at hA2 hP2 hw c8' ⊢
        have key : ∀ d k, k + d = many → (∀ j, j < k → w2 (600 + j) = A j) → mw_isTrue_L121 P (nI many) (d + 1) (nI k) (MK (mErr n none) w2) := by
          intro d
          induction d with
          | zero =>
            intro k hk hj
            have ek : k = many := by omega
            subst ek
            rw [cI_t (hw.mpr ⟨he, c8', hj⟩)] at hP2
            unfold mw_isTrue_L121 mw_isTrue_L121_S
            exact ⟨fun _ => hP2, fun z => absurd (Int32.le_refl _) z⟩
          | succ d ih =>
            intro k hk hj
            unfold mw_isTrue_L121 mw_isTrue_L121_S
            simp (disch := omega) only [MK_600, forall_eq, forall_eq', exists_eq_left, exists_eq_left', true_and, and_true, true_implies, false_implies, not_true_eq_false, not_false_eq_true, Prod.mk.injEq, Option.some.injEq, reduceCtorEq, and_self, implies_true, eq_self, Classical.not_not, and_false, false_and, ite_true, ite_false, reduceIte, bI_0, or_false, false_or, or_true, true_or, or_self, if_true, if_false, n_le_t, n_le_f, n_lt_t, n_lt_f, n_eq_t, n_eq_f, n_toInt, n_cl, n_vp, n_eqM, M_eqn, n_leM, n_ltM, M_len, M_ltn, M_add, n_sub, iM_toInt, x_lt_t, x_lt_f, x_le_t, x_le_f, lt_x_t, lt_x_f, le_x_t, le_x_f, x_eq_f, nI_add, pk_mul, bI_t, bI_f, Int32.toInt_toInt64, n_subI, x_add0, i_le_t, i_le_f, i_lt_t, i_lt_f, k_le_t, k_le_f, k_lt_t, k_lt_f, li_0, li_1, li_2, li_3, li_4, li_5, li_6, li_7, li_8, li_9, li_10, li_11, li_12, li_16, li_20, li_24, li_25, li_26, li_30, li_31, li_32, li_40, li_48, li_49, li_57, li_59, li_60, li_63, li_64, li_65, li_90, li_96, li_97, li_106, li_122, li_255, li_300, li_600, li_800, li_900, li_1850, li_2000, li_2010, li_2040, li_2801, li_3300, li_4161, li_9999, li_10163, li_16500, li_16800, li_17100, li_18350, li_18510, li_18540, li_65536, li_100000, li_999999, li_1000000, li_2147483647, im_1, im_8, ll_0, ll_1, ll_2, ll_3, ll_4, ll_6, ll_16, ll_20, ll_40, ll_63, ll_800, ll_9999, jm_same, jm_ob, jm_ok, jm_il, jm_li, jm_lsame, jm_lob, jm_lok, Nat.reduceAdd, Nat.reduceMul, Nat.zero_add, Nat.add_zero, Nat.mul_zero, Nat.zero_mul, e_mw_isSmall, e_mw_isDigit, e_mw_isDigit0, e_mw_isGreat, e_xs_isSmall, e_xs_isFigure, e_xs_isGreat, e_mw_isLetter, e_xs_isLetter, e_isBlank, e_xs_isBlank, e_isFrom, e_isIn]
            rw [hA2 k (by omega)]
            refine ⟨fun ceq => ih (k + 1) (by omega) (fun j hj2 => ?_), fun cne => ?_⟩
            · by_cases z : j = k
              · subst z; exact ceq
              · exact hj j (by omega)
            · rw [cI_f (fun z => cne ((hw.mp z).2.2 k (by omega)))] at hP2
              exact hP2
        exact ⟨_, key many 0 (by omega) (fun j hj => by omega)⟩
      · rw [MK_8] at c8
        rw [cI_f (fun z => c8 (hw.mp z).2.1)] at hP2
        exact hP2
  · obtain ⟨e18, tl⟩ := hTr l hl
    have hll := hle l (by omega)
    obtain ⟨⟨l0, l0a, l0b⟩, ll, _⟩ := hT.2.2.2.2.2.2 (T l) tl
    have htab : ∀ (w : Nat → Int32) k, k < 3300 → jm_i (MK n w) 1 k = sl m 0 k := fun w k hk => by rw [MK_tab hk, hsl]
    have e18' : jm_i (MK n w) 18 l = nI (T l) := by rw [MK_b (by omega), e18]
    have g0l := hT.1.2
    have eS : ptX (sl m 0) T (l + 1) = ((ptX (sl m 0) T l).1 + hN (sl m 0) (12 + 12 * T l), apB (sl m 0) (ptX (sl m 0) T l).2 (ptX (sl m 0) T l).1 (T l)) := rfl
    rw [eS] at ih
    generalize ptX (sl m 0) T l = pb at hI hll ih ⊢
    obtain ⟨e, b⟩ := pb
    have hll : e ≤ 6 * l := hll
    have hI : ∀ k, k < e → w (300 + k) = b k := hI
    unfold mw_isTrue_L5 mw_isTrue_L5_S
    simp (disch := omega) only [mw_ruleAt, e18', forall_eq, forall_eq', exists_eq_left, exists_eq_left', true_and, and_true, true_implies, false_implies, not_true_eq_false, not_false_eq_true, Prod.mk.injEq, Option.some.injEq, reduceCtorEq, and_self, implies_true, eq_self, Classical.not_not, and_false, false_and, ite_true, ite_false, reduceIte, bI_0, or_false, false_or, or_true, true_or, or_self, if_true, if_false, n_le_t, n_le_f, n_lt_t, n_lt_f, n_eq_t, n_eq_f, n_toInt, n_cl, n_vp, n_eqM, M_eqn, n_leM, n_ltM, M_len, M_ltn, M_add, n_sub, iM_toInt, x_lt_t, x_lt_f, x_le_t, x_le_f, lt_x_t, lt_x_f, le_x_t, le_x_f, x_eq_f, nI_add, pk_mul, bI_t, bI_f, Int32.toInt_toInt64, n_subI, x_add0, i_le_t, i_le_f, i_lt_t, i_lt_f, k_le_t, k_le_f, k_lt_t, k_lt_f, li_0, li_1, li_2, li_3, li_4, li_5, li_6, li_7, li_8, li_9, li_10, li_11, li_12, li_16, li_20, li_24, li_25, li_26, li_30, li_31, li_32, li_40, li_48, li_49, li_57, li_59, li_60, li_63, li_64, li_65, li_90, li_96, li_97, li_106, li_122, li_255, li_300, li_600, li_800, li_900, li_1850, li_2000, li_2010, li_2040, li_2801, li_3300, li_4161, li_9999, li_10163, li_16500, li_16800, li_17100, li_18350, li_18510, li_18540, li_65536, li_100000, li_999999, li_1000000, li_2147483647, im_1, im_8, ll_0, ll_1, ll_2, ll_3, ll_4, ll_6, ll_16, ll_20, ll_40, ll_63, ll_800, ll_9999, jm_same, jm_ob, jm_ok, jm_il, jm_li, jm_lsame, jm_lob, jm_lok, Nat.reduceAdd, Nat.reduceMul, Nat.zero_add, Nat.add_zero, Nat.mul_zero, Nat.zero_mul, e_mw_isSmall, e_mw_isDigit, e_mw_isDigit0, e_mw_isGreat, e_xs_isSmall, e_xs_isFigure, e_xs_isGreat, e_mw_isLetter, e_xs_isLetter, e_isBlank, e_xs_isBlank, e_isFrom, e_isIn]
    refine lp_st (fun f i w => mw_isTrue_L27 (mw_isTrue_L5 P (nI L) (nI many) _) P (nI L) (nI many) (nI l) (nI (12 + 12 * T l)) f (nI (e + i)) (nI i) (MK n w)) (fun i w => ∀ k, k < e + i → w (300 + k) = apB (sl m 0) b e (T l) k) (hN (sl m 0) (12 + 12 * T l)) 0 w (Nat.zero_le _) (fun k hk => by
      rw [hI k (by omega)]
      unfold apB
      rw [if_neg (by omega)]) (fun f2 w2 hJ => ?_) (fun f2 i w2 hi hJ ih2 => ?_)
    · have ht := htab w2 (12 + 12 * T l) (by omega)
      unfold mw_isTrue_L27 mw_isTrue_L27_S
      simp (disch := omega) only [ht, l0, forall_eq, forall_eq', exists_eq_left, exists_eq_left', true_and, and_true, true_implies, false_implies, not_true_eq_false, not_false_eq_true, Prod.mk.injEq, Option.some.injEq, reduceCtorEq, and_self, implies_true, eq_self, Classical.not_not, and_false, false_and, ite_true, ite_false, reduceIte, bI_0, or_false, false_or, or_true, true_or, or_self, if_true, if_false, n_le_t, n_le_f, n_lt_t, n_lt_f, n_eq_t, n_eq_f, n_toInt, n_cl, n_vp, n_eqM, M_eqn, n_leM, n_ltM, M_len, M_ltn, M_add, n_sub, iM_toInt, x_lt_t, x_lt_f, x_le_t, x_le_f, lt_x_t, lt_x_f, le_x_t, le_x_f, x_eq_f, nI_add, pk_mul, bI_t, bI_f, Int32.toInt_toInt64, n_subI, x_add0, i_le_t, i_le_f, i_lt_t, i_lt_f, k_le_t, k_le_f, k_lt_t, k_lt_f, li_0, li_1, li_2, li_3, li_4, li_5, li_6, li_7, li_8, li_9, li_10, li_11, li_12, li_16, li_20, li_24, li_25, li_26, li_30, li_31, li_32, li_40, li_48, li_49, li_57, li_59, li_60, li_63, li_64, li_65, li_90, li_96, li_97, li_106, li_122, li_255, li_300, li_600, li_800, li_900, li_1850, li_2000, li_2010, li_2040, li_2801, li_3300, li_4161, li_9999, li_10163, li_16500, li_16800, li_17100, li_18350, li_18510, li_18540, li_65536, li_100000, li_999999, li_1000000, li_2147483647, im_1, im_8, ll_0, ll_1, ll_2, ll_3, ll_4, ll_6, ll_16, ll_20, ll_40, ll_63, ll_800, ll_9999, jm_same, jm_ob, jm_ok, jm_il, jm_li, jm_lsame, jm_lob, jm_lok, Nat.reduceAdd, Nat.reduceMul, Nat.zero_add, Nat.add_zero, Nat.mul_zero, Nat.zero_mul, e_mw_isSmall, e_mw_isDigit, e_mw_isDigit0, e_mw_isGreat, e_xs_isSmall, e_xs_isFigure, e_xs_isGreat, e_mw_isLetter, e_xs_isLetter, e_isBlank, e_xs_isBlank, e_isFrom, e_isIn]
      exact ih w2 hJ
    · have ht := htab w2 (12 + 12 * T l) (by omega)
      have ht2 := htab w2 (12 + 12 * T l + 1 + i) (by omega)
      obtain ⟨y1, y2, y3⟩ := ll i hi
      rw [y1] at ht2
      unfold mw_isTrue_L27 mw_isTrue_L27_S
      simp (disch := omega) only [ht, l0, ht2, MK_s300, le_97, forall_eq, forall_eq', exists_eq_left, exists_eq_left', true_and, and_true, true_implies, false_implies, not_true_eq_false, not_false_eq_true, Prod.mk.injEq, Option.some.injEq, reduceCtorEq, and_self, implies_true, eq_self, Classical.not_not, and_false, false_and, ite_true, ite_false, reduceIte, bI_0, or_false, false_or, or_true, true_or, or_self, if_true, if_false, n_le_t, n_le_f, n_lt_t, n_lt_f, n_eq_t, n_eq_f, n_toInt, n_cl, n_vp, n_eqM, M_eqn, n_leM, n_ltM, M_len, M_ltn, M_add, n_sub, iM_toInt, x_lt_t, x_lt_f, x_le_t, x_le_f, lt_x_t, lt_x_f, le_x_t, le_x_f, x_eq_f, nI_add, pk_mul, bI_t, bI_f, Int32.toInt_toInt64, n_subI, x_add0, i_le_t, i_le_f, i_lt_t, i_lt_f, k_le_t, k_le_f, k_lt_t, k_lt_f, li_0, li_1, li_2, li_3, li_4, li_5, li_6, li_7, li_8, li_9, li_10, li_11, li_12, li_16, li_20, li_24, li_25, li_26, li_30, li_31, li_32, li_40, li_48, li_49, li_57, li_59, li_60, li_63, li_64, li_65, li_90, li_96, li_97, li_106, li_122, li_255, li_300, li_600, li_800, li_900, li_1850, li_2000, li_2010, li_2040, li_2801, li_3300, li_4161, li_9999, li_10163, li_16500, li_16800, li_17100, li_18350, li_18510, li_18540, li_65536, li_100000, li_999999, li_1000000, li_2147483647, im_1, im_8, ll_0, ll_1, ll_2, ll_3, ll_4, ll_6, ll_16, ll_20, ll_40, ll_63, ll_800, ll_9999, jm_same, jm_ob, jm_ok, jm_il, jm_li, jm_lsame, jm_lob, jm_lok, Nat.reduceAdd, Nat.reduceMul, Nat.zero_add, Nat.add_zero, Nat.mul_zero, Nat.zero_mul, e_mw_isSmall, e_mw_isDigit, e_mw_isDigit0, e_mw_isGreat, e_xs_isSmall, e_xs_isFigure, e_xs_isGreat, e_mw_isLetter, e_xs_isLetter, e_isBlank, e_xs_isBlank, e_isFrom, e_isIn]
      refine ih2 _ (fun k hk => ?_)
      by_cases z : k = e + i
      · subst z
        rw [up_s]
        unfold apB
        rw [if_pos (by omega), show e + i - e = i by omega]
        congr 1
        omega
      · rw [up_n (by omega)]; exact hJ k (by omega)
end TRC
