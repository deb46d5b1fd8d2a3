/-! PLAIN LAW: first -/
set_option linter.unusedVariables false
theorem ftD_ge {h A F : Nat → Int32} {many : Nat} : ∀ d p cnt lt f, cnt ≤ (ftD h A F many d p cnt lt f).1
  | 0, p, cnt, lt, f => Nat.le_refl _
  | d + 1, p, cnt, lt, f => by
    by_cases c : many ≤ p
    · rw [ftD_e c]; exact Nat.le_refl _
    · cases e : fsS (nxP h A F many p) (hN h 0) with
      | none =>
        unfold ftD
        rw [cI_f c, e]
        exact Nat.le_refl _
      | some r =>
        rw [ftD_s c e]
        have := ftD_ge (h := h) (A := A) (F := F) (many := many) d (p + hN h (12 + 12 * r + 7)) (cnt + 1) (lt + hN h (12 + 12 * r)) (up f cnt r)
        omega
theorem ftD_pos {h A F : Nat → Int32} {many : Nat} {f : Nat → Nat} (hT : WT h) (h1 : 1 ≤ many) (h0 : wyW h A F many many 0 ≠ 0) : (ftD h A F many (many + 1) 0 0 0 f).1 ≠ 0 := by
  obtain ⟨r0, hr0, hnx⟩ := wyW_nx hT (show 0 < many by omega) h0
  cases e : fsS (nxP h A F many 0) (hN h 0) with
  | none => exact absurd hnx (fsS_none e r0 hr0)
  | some r =>
    rw [ftD_s (by omega) e]
    have := ftD_ge (h := h) (A := A) (F := F) (many := many) many (0 + hN h (12 + 12 * r + 7)) (0 + 1) (0 + hN h (12 + 12 * r)) (up f 0 r)
    omega
section XCD
variable {a : Nat → Nat} {K : XK} {ow : Nat → Nat} {u v : XS} {m n : MS} {A F : Nat → Int32}
def mFt (n v : MS) (cnt lt : Nat) (f : Nat → Nat) : Prop :=
  (∀ b k, ¬ (b = 0 ∧ (k = 36 ∨ k = 37)) → b ≠ 17 → jm_i v b k = jm_i n b k) ∧ (∀ b k, jm_l v b k = jm_l n b k) ∧ jm_i v 0 36 = nI cnt ∧ jm_i v 0 37 = nI lt ∧ ∀ k, k < cnt → jm_i v 17 k = nI (f k)
set_option maxHeartbeats 8000000 in
theorem m_firstL {many : Nat} {Q : Int32 → MS → Prop} (hT : WT (sl m 0)) (hn1 : ∀ k, k < 3300 → jm_i n 1 k = sl m 0 k) (hm : many ≤ 20) (hA : ∀ k, k < many → jm_i n 14 k = A k) (hF : ∀ k, k < many → jm_i n 15 k = F k) (hW : ∀ k, k ≤ many → jm_i n 16 k = nI (wyW (sl m 0) A F many many k))
    (hP : ∀ v, mFt n v (ftD (sl m 0) A F many (many + 1) 0 0 0 (fun _ => 0)).1 (ftD (sl m 0) A F many (many + 1) 0 0 0 (fun _ => 0)).2.1 (ftD (sl m 0) A F many (many + 1) 0 0 0 (fun _ => 0)).2.2 → Q (nI (ftD (sl m 0) A F many (many + 1) 0 0 0 (fun _ => 0)).1) (jm_s v 0 1 (nI 0)))
    (h0 : wyW (sl m 0) A F many many 0 ≠ 0) {v0 : MS} (hv0 : mFt n v0 0 0 (fun _ => 0)) : ∃ q, mw_first_L52 Q (nI many) q (nI 0) v0 := by
  have g0l := hT.1.2
  have key : ∀ d p cnt lt f v, many - p < d → p ≤ many → (p < many → wyW (sl m 0) A F many many p ≠ 0) → cnt ≤ p → lt ≤ 6 * p → mFt n v cnt lt f →
      (∀ v, mFt n v (ftD (sl m 0) A F many d p cnt lt f).1 (ftD (sl m 0) A F many d p cnt lt f).2.1 (ftD (sl m 0) A F many d p cnt lt f).2.2 → Q (nI (ftD (sl m 0) A F many d p cnt lt f).1) (jm_s v 0 1 (nI 0))) →
      mw_first_L52 Q (nI many) d (nI p) v := by
    intro d
    induction d with
    | zero => intro p cnt lt f v hd; omega
    | succ d ih =>
      intro p cnt lt f v hd hp hWp hcnt hlt hX hP
      unfold mw_first_L52 mw_first_L52_S
      by_cases hz : many ≤ p
      · rw [ftD_e hz] at hP
        have e36 := hX.2.2.1
        have := hP v hX
        simp (disch := omega) only [mw_gives, e36, forall_eq, forall_eq', exists_eq_left, exists_eq_left', true_and, and_true, true_implies, false_implies, not_true_eq_false, not_false_eq_true, Prod.mk.injEq, Option.some.injEq, reduceCtorEq, and_self, implies_true, eq_self, Classical.not_not, and_false, false_and, ite_true, ite_false, reduceIte, bI_0, or_false, false_or, or_true, true_or, or_self, if_true, if_false, n_le_t, n_le_f, n_lt_t, n_lt_f, n_eq_t, n_eq_f, n_toInt, n_cl, n_vp, n_eqM, M_eqn, n_leM, n_ltM, M_len, M_ltn, M_add, n_sub, iM_toInt, x_lt_t, x_lt_f, x_le_t, x_le_f, lt_x_t, lt_x_f, le_x_t, le_x_f, x_eq_f, nI_add, pk_mul, bI_t, bI_f, Int32.toInt_toInt64, n_subI, x_add0, i_le_t, i_le_f, i_lt_t, i_lt_f, k_le_t, k_le_f, k_lt_t, k_lt_f, li_0, li_1, li_2, li_3, li_4, li_5, li_6, li_7, li_8, li_9, li_10, li_11, li_12, li_16, li_20, li_24, li_25, li_26, li_30, li_31, li_32, li_40, li_48, li_49, li_57, li_59, li_60, li_63, li_64, li_65, li_90, li_96, li_97, li_106, li_122, li_255, li_300, li_600, li_800, li_900, li_1850, li_2000, li_2010, li_2040, li_2801, li_3300, li_4161, li_9999, li_10163, li_16500, li_16800, li_17100, li_18350, li_18510, li_18540, li_65536, li_100000, li_999999, li_1000000, li_2147483647, im_1, im_8, ll_0, ll_1, ll_2, ll_3, ll_4, ll_6, ll_16, ll_20, ll_40, ll_63, ll_800, ll_9999, jm_same, jm_ob, jm_ok, jm_il, jm_li, jm_lsame, jm_lob, jm_lok, Nat.reduceAdd, Nat.reduceMul, Nat.zero_add, Nat.add_zero, Nat.mul_zero, Nat.zero_mul, e_mw_isSmall, e_mw_isDigit, e_mw_isDigit0, e_mw_isGreat, e_xs_isSmall, e_xs_isFigure, e_xs_isGreat, e_mw_isLetter, e_xs_isLetter, e_isBlank, e_xs_isBlank, e_isFrom, e_isIn]
        exact this
      · obtain ⟨r0, hr0, hnx⟩ := wyW_nx hT (show p < many by omega) (hWp (by omega))
        cases he : fsS (nxP (sl m 0) A F many p) (hN (sl m 0) 0) with
        | none => exact absurd hnx (fsS_none he r0 hr0)
        | some r =>
          rw [ftD_s hz he] at hP
          obtain ⟨y1, y2, y3⟩ := fsS_some he
          obtain ⟨⟨l0, l1, l6⟩, _, ⟨c0', c0a, c0b⟩, _, _⟩ := hT.2.2.2.2.2.2 r y1
          have hle := y2.1.2.1
          have oth : ∀ b k, b ≠ 0 → b ≠ 17 → jm_i v b k = jm_i n b k := fun b k h1 h2 => hX.1 b k (fun z => h1 z.1) h2
          have h1v : ∀ k, k < 3300 → jm_i v 1 k = sl m 0 k := fun k hk => by rw [oth _ _ (by omega) (by omega), hn1 k hk]
          have hAv : ∀ k, k < many → jm_i v 14 k = A k := fun k hk => by rw [oth _ _ (by omega) (by omega), hA k hk]
          have hFv : ∀ k, k < many → jm_i v 15 k = F k := fun k hk => by rw [oth _ _ (by omega) (by omega), hF k hk]
          have hWv : ∀ k, k ≤ many → jm_i v 16 k = nI (wyW (sl m 0) A F many many k) := fun k hk => by rw [oth _ _ (by omega) (by omega), hW k hk]
          have hlt2 : (nI many ≤ nI p) = False := n_le_f (by omega) (by omega)
          refine ⟨fun z => absurd z (by rw [hlt2]; exact id), fun _ => ?_⟩
          refine lp_up (fun q k => mw_first_L61 (mw_first_L52 Q (nI many) d) Q (nI many) (nI p) q (nI k) v) r 0 (Nat.zero_le _) (fun q => ?_) (fun q k hk ih2 => ?_)
          · have e16 := hWv (p + hN (sl m 0) (12 + 12 * r + 7)) hle
            have hWle := wyW_le (h := sl m 0) (A := A) (F := F) (many := many) many (p + hN (sl m 0) (12 + 12 * r + 7))
            have hw0 : (nI (wyW (sl m 0) A F many many (p + hN (sl m 0) (12 + 12 * r + 7))) = nI 0) = False := n_eq_f y2.2 (by omega) (by omega)
            have e36 := hX.2.2.1
            have e37 := hX.2.2.2.1
            unfold mw_first_L61 mw_first_L61_S
            refine m_reads (A := A) (F := F) hT h1v y1 (by omega) hm hAv hFv ?_
            rw [cI_t y2.1]
            have X2 : mFt n (jm_s (jm_s (jm_s v 17 cnt (nI r)) 0 36 (nI (cnt + 1))) 0 37 (nI (lt + hN (sl m 0) (12 + 12 * r)))) (cnt + 1) (lt + hN (sl m 0) (12 + 12 * r)) (up f cnt r) := by
              refine ⟨fun b k h1 h2 => ?_, fun b k => hX.2.1 b k, by rw [jm_ok (by omega), jm_same], jm_same, fun k hk => ?_⟩
              · have g1 : ¬ (b = 0 ∧ k = 36) := fun z => h1 (by omega)
                have g2 : ¬ (b = 0 ∧ k = 37) := fun z => h1 (by omega)
                have g3 : ¬ (b = 17 ∧ k = cnt) := fun z => h2 z.1
                rw [← hX.1 b k h1 h2]
                simp only [jm_i, jm_s, if_neg g1, if_neg g2, if_neg g3]
              · rw [jm_ob (by omega), jm_ob (by omega)]
                by_cases z : k = cnt
                · subst z; rw [jm_same, up_s]
                · rw [jm_ok z, up_n z]; exact hX.2.2.2.2 k (by omega)
            have := ih (p + hN (sl m 0) (12 + 12 * r + 7)) (cnt + 1) (lt + hN (sl m 0) (12 + 12 * r)) (up f cnt r) _ (by omega) hle (fun _ => y2.2) (by omega) (by omega) X2 hP
            simp (disch := omega) only [mw_cellsOf, mw_ruleAt, h1v, c0', l0, e16, hw0, e36, e37, forall_eq, forall_eq', exists_eq_left, exists_eq_left', true_and, and_true, true_implies, false_implies, not_true_eq_false, not_false_eq_true, Prod.mk.injEq, Option.some.injEq, reduceCtorEq, and_self, implies_true, eq_self, Classical.not_not, and_false, false_and, ite_true, ite_false, reduceIte, bI_0, or_false, false_or, or_true, true_or, or_self, if_true, if_false, n_le_t, n_le_f, n_lt_t, n_lt_f, n_eq_t, n_eq_f, n_toInt, n_cl, n_vp, n_eqM, M_eqn, n_leM, n_ltM, M_len, M_ltn, M_add, n_sub, iM_toInt, x_lt_t, x_lt_f, x_le_t, x_le_f, lt_x_t, lt_x_f, le_x_t, le_x_f, x_eq_f, nI_add, pk_mul, bI_t, bI_f, Int32.toInt_toInt64, n_subI, x_add0, i_le_t, i_le_f, i_lt_t, i_lt_f, k_le_t, k_le_f, k_lt_t, k_lt_f, li_0, li_1, li_2, li_3, li_4, li_5, li_6, li_7, li_8, li_9, li_10, li_11, li_12, li_16, li_20, li_24, li_25, li_26, li_30, li_31, li_32, li_40, li_48, li_49, li_57, li_59, li_60, li_63, li_64, li_65, li_90, li_96, li_97, li_106, li_122, li_255, li_300, li_600, li_800, li_900, li_1850, li_2000, li_2010, li_2040, li_2801, li_3300, li_4161, li_9999, li_10163, li_16500, li_16800, li_17100, li_18350, li_18510, li_18540, li_65536, li_100000, li_999999, li_1000000, li_2147483647, im_1, im_8, ll_0, ll_1, ll_2, ll_3, ll_4, ll_6, ll_16, ll_20, ll_40, ll_63, ll_800, ll_9999, jm_same, jm_ob, jm_ok, jm_il, jm_li, jm_lsame, jm_lob, jm_lok, Nat.reduceAdd, Nat.reduceMul, Nat.zero_add, Nat.add_zero, Nat.mul_zero, Nat.zero_mul, e_mw_isSmall, e_mw_isDigit, e_mw_isDigit0, e_mw_isGreat, e_xs_isSmall, e_xs_isFigure, e_xs_isGreat, e_mw_isLetter, e_xs_isLetter, e_isBlank, e_xs_isBlank, e_isFrom, e_isIn]
            exact this
          · have hk2 := y3 k hk
            have hkr : k < hN (sl m 0) 0 := by omega
            obtain ⟨_, _, ⟨ck', cka, ckb⟩, _, _⟩ := hT.2.2.2.2.2.2 k hkr
            unfold mw_first_L61 mw_first_L61_S
            refine m_reads (A := A) (F := F) hT h1v hkr (by omega) hm hAv hFv ?_
            by_cases c : rdP (sl m 0) A F k p many
            · rw [cI_t c]
              have hW0 : wyW (sl m 0) A F many many (p + hN (sl m 0) (12 + 12 * k + 7)) = 0 := Classical.byContradiction (fun z => hk2 ⟨c, z⟩)
              have hcl := c.2.1
              have e16 := hWv (p + hN (sl m 0) (12 + 12 * k + 7)) hcl
              rw [hW0] at e16
              simp (disch := omega) only [mw_cellsOf, mw_ruleAt, h1v, ck', e16, forall_eq, forall_eq', exists_eq_left, exists_eq_left', true_and, and_true, true_implies, false_implies, not_true_eq_false, not_false_eq_true, Prod.mk.injEq, Option.some.injEq, reduceCtorEq, and_self, implies_true, eq_self, Classical.not_not, and_false, false_and, ite_true, ite_false, reduceIte, bI_0, or_false, false_or, or_true, true_or, or_self, if_true, if_false, n_le_t, n_le_f, n_lt_t, n_lt_f, n_eq_t, n_eq_f, n_toInt, n_cl, n_vp, n_eqM, M_eqn, n_leM, n_ltM, M_len, M_ltn, M_add, n_sub, iM_toInt, x_lt_t, x_lt_f, x_le_t, x_le_f, lt_x_t, lt_x_f, le_x_t, le_x_f, x_eq_f, nI_add, pk_mul, bI_t, bI_f, Int32.toInt_toInt64, n_subI, x_add0, i_le_t, i_le_f, i_lt_t, i_lt_f, k_le_t, k_le_f, k_lt_t, k_lt_f, li_0, li_1, li_2, li_3, li_4, li_5, li_6, li_7, li_8, li_9, li_10, li_11, li_12, li_16, li_20, li_24, li_25, li_26, li_30, li_31, li_32, li_40, li_48, li_49, li_57, li_59, li_60, li_63, li_64, li_65, li_90, li_96, li_97, li_106, li_122, li_255, li_300, li_600, li_800, li_900, li_1850, li_2000, li_2010, li_2040, li_2801, li_3300, li_4161, li_9999, li_10163, li_16500, li_16800, li_17100, li_18350, li_18510, li_18540, li_65536, li_100000, li_999999, li_1000000, li_2147483647, im_1, im_8, ll_0, ll_1, ll_2, ll_3, ll_4, ll_6, ll_16, ll_20, ll_40, ll_63, ll_800, ll_9999, jm_same, jm_ob, jm_ok, jm_il, jm_li, jm_lsame, jm_lob, jm_lok, Nat.reduceAdd, Nat.reduceMul, Nat.zero_add, Nat.add_zero, Nat.mul_zero, Nat.zero_mul, e_mw_isSmall, e_mw_isDigit, e_mw_isDigit0, e_mw_isGreat, e_xs_isSmall, e_xs_isFigure, e_xs_isGreat, e_mw_isLetter, e_xs_isLetter, e_isBlank, e_xs_isBlank, e_isFrom, e_isIn]
              exact ih2
            · rw [cI_f c]
              simp (disch := omega) only [forall_eq, forall_eq', exists_eq_left, exists_eq_left', true_and, and_true, true_implies, false_implies, not_true_eq_false, not_false_eq_true, Prod.mk.injEq, Option.some.injEq, reduceCtorEq, and_self, implies_true, eq_self, Classical.not_not, and_false, false_and, ite_true, ite_false, reduceIte, bI_0, or_false, false_or, or_true, true_or, or_self, if_true, if_false, n_le_t, n_le_f, n_lt_t, n_lt_f, n_eq_t, n_eq_f, n_toInt, n_cl, n_vp, n_eqM, M_eqn, n_leM, n_ltM, M_len, M_ltn, M_add, n_sub, iM_toInt, x_lt_t, x_lt_f, x_le_t, x_le_f, lt_x_t, lt_x_f, le_x_t, le_x_f, x_eq_f, nI_add, pk_mul, bI_t, bI_f, Int32.toInt_toInt64, n_subI, x_add0, i_le_t, i_le_f, i_lt_t, i_lt_f, k_le_t, k_le_f, k_lt_t, k_lt_f, li_0, li_1, li_2, li_3, li_4, li_5, li_6, li_7, li_8, li_9, li_10, li_11, li_12, li_16, li_20, li_24, li_25, li_26, li_30, li_31, li_32, li_40, li_48, li_49, li_57, li_59, li_60, li_63, li_64, li_65, li_90, li_96, li_97, li_106, li_122, li_255, li_300, li_600, li_800, li_900, li_1850, li_2000, li_2010, li_2040, li_2801, li_3300, li_4161, li_9999, li_10163, li_16500, li_16800, li_17100, li_18350, li_18510, li_18540, li_65536, li_100000, li_999999, li_1000000, li_2147483647, im_1, im_8, ll_0, ll_1, ll_2, ll_3, ll_4, ll_6, ll_16, ll_20, ll_40, ll_63, ll_800, ll_9999, jm_same, jm_ob, jm_ok, jm_il, jm_li, jm_lsame, jm_lob, jm_lok, Nat.reduceAdd, Nat.reduceMul, Nat.zero_add, Nat.add_zero, Nat.mul_zero, Nat.zero_mul, e_mw_isSmall, e_mw_isDigit, e_mw_isDigit0, e_mw_isGreat, e_xs_isSmall, e_xs_isFigure, e_xs_isGreat, e_mw_isLetter, e_xs_isLetter, e_isBlank, e_xs_isBlank, e_isFrom, e_isIn]
              exact ih2
  exact ⟨_, key (many + 1) 0 0 0 _ v0 (by omega) (by omega) (fun _ => h0) (Nat.le_refl _) (by omega) hv0 hP⟩
set_option maxHeartbeats 8000000 in
theorem s_first (hR : Rep a K ow u m) (x y : Int32) : ST a m (fun mc ms P => xw0_first (a 0) x y K u mc ms P) (mw_first x y) := by
  intro mc ms P hmc hms hP
  have hR1 := hR.st (nI 0)
  have hT : WT (sl m 0) := hR.2.2.2.1.1
  have k0 := hR.1.1.1
  have k12 : K (a 12) = (1, 3) := hR.1.1.2.2.2.2.2.2.2.2.2.2.2.2.1
  have o0 : ow (a 0) = 0 := hR.1.2.1 0 (by omega)
  have o12 : ow (a 12) = 12 := hR.1.2.1 12 (by omega)
  have p6 : xr u (a 0) 6 = some (a 12) := hR.1.2.2.1.2.2.2.1
  have p15 : xr u (a 0) 15 = some (a 14) := hR.1.2.2.1.2.2.2.2.2.2.2.1
  have hTr : ∀ t, t < 4 → jm_i m 3 t = iM ∨ ∃ n2, jm_i m 3 t = nI n2 ∧ n2 ≤ 60 := fun t ht => (hR.2.2.1 t ht).tr3
  have eO : ∀ l, rowO (jm_s m 0 1 (nI 0)) x y l = rowO m x y l := fun l => rfl
  unfold xw0_first
  refine ⟨k0, fun u2 e2 => ⟨a 14, by rw [e2]; exact p15, 100, 1000, by omega, by omega, ?_⟩⟩
  have e2 : u2 = xsi u (a 0) 7 (nI 0) := e2
  subst e2
  refine x_waysC (P := fun r23 K13 u23 => (r23 ≤ 0 → xw0_first_B34 P mc ms (a 0) y (0 : Int32) (a 0) K13 u23 100 1000) ∧ (¬ r23 ≤ 0 → xw0_first_B34 P mc ms (a 0) y (1 : Int32) (a 0) K13 u23 100 1000)) hR1 p15 (fun w v e hne hq => ?_) (fun i c v e ex hi em y1 y2 hq hv hf hW => ?_)
  · rw [eO] at e
    subst e
    refine x_none k0 k12 ?_
    have hq2 := QX.st (x := nI (rowO m x y 1)) (hq.st0.s (b := a 12) (k := 6) (x := nI (rowO m x y 1)) (by rw [o12]; unfold xsc; omega))
    refine hP _ _ _ (fun Q hQ => ?_)
    unfold mw_first
    refine m_wrongRow (least := 1) hTr (by omega) ?_
    have hlt := rowO_lt (m := m) (x := x) (many := y) (least := 1)
    have fin := hQ ow _ (hR.q (QM.s (x := nI (rowO m x y 1)) QM.refl (show scr 0 1 by unfold scr; omega)) hq2 (by rw [xi_same, jm_same]))
    generalize rowO m x y 1 = w at hne hlt fin
    simp (disch := omega) only [mw_refuse, forall_eq, forall_eq', exists_eq_left, exists_eq_left', true_and, and_true, true_implies, false_implies, not_true_eq_false, not_false_eq_true, Prod.mk.injEq, Option.some.injEq, reduceCtorEq, and_self, implies_true, eq_self, Classical.not_not, and_false, false_and, ite_true, ite_false, reduceIte, bI_0, or_false, false_or, or_true, true_or, or_self, if_true, if_false, n_le_t, n_le_f, n_lt_t, n_lt_f, n_eq_t, n_eq_f, n_toInt, n_cl, n_vp, n_eqM, M_eqn, n_leM, n_ltM, M_len, M_ltn, M_add, n_sub, iM_toInt, x_lt_t, x_lt_f, x_le_t, x_le_f, lt_x_t, lt_x_f, le_x_t, le_x_f, x_eq_f, nI_add, pk_mul, bI_t, bI_f, Int32.toInt_toInt64, n_subI, x_add0, i_le_t, i_le_f, i_lt_t, i_lt_f, k_le_t, k_le_f, k_lt_t, k_lt_f, li_0, li_1, li_2, li_3, li_4, li_5, li_6, li_7, li_8, li_9, li_10, li_11, li_12, li_16, li_20, li_24, li_25, li_26, li_30, li_31, li_32, li_40, li_48, li_49, li_57, li_59, li_60, li_63, li_64, li_65, li_90, li_96, li_97, li_106, li_122, li_255, li_300, li_600, li_800, li_900, li_1850, li_2000, li_2010, li_2040, li_2801, li_3300, li_4161, li_9999, li_10163, li_16500, li_16800, li_17100, li_18350, li_18510, li_18540, li_65536, li_100000, li_999999, li_1000000, li_2147483647, im_1, im_8, ll_0, ll_1, ll_2, ll_3, ll_4, ll_6, ll_16, ll_20, ll_40, ll_63, ll_800, ll_9999, jm_same, jm_ob, jm_ok, jm_il, jm_li, jm_lsame, jm_lob, jm_lok, Nat.reduceAdd, Nat.reduceMul, Nat.zero_add, Nat.add_zero, Nat.mul_zero, Nat.zero_mul, e_mw_isSmall, e_mw_isDigit, e_mw_isDigit0, e_mw_isGreat, e_xs_isSmall, e_xs_isFigure, e_xs_isGreat, e_mw_isLetter, e_xs_isLetter, e_isBlank, e_xs_isBlank, e_isFrom, e_isIn]
    exact fin
  · rw [eO] at e
    subst ex em
    rw [sl_so (by omega)] at hW ⊢
    have hWl := wyW_le (h := sl m 0) (A := rwA (jm_s m 0 1 (nI 0)) i) (F := fun _ => nI 0) (many := c) c 0
    have hs0 := hq.sta o0
    have hqx : QX ow (a 0) u v := hq.st0
    have hRv := hR.vv hqx
    have p6v : xr v (a 0) 6 = some (a 12) := by rw [hq.2.2 _ _ (by omega)]; exact p6
    have eA : rwA (jm_s m 0 1 (nI 0)) i = rwA m i := rfl
    rw [eA] at hW hWl hv ⊢
    by_cases hz : wyW (sl m 0) (rwA m i) (fun _ => nI 0) c c 0 = 0
    · rw [hz]
      refine ⟨fun _ => ?_, fun z => absurd (Int32.le_refl _) z⟩
      unfold xw0_first_B34
      refine ⟨k0, 0, 0, by omega, by omega, x_want0 k0 p6v k12 ⟨k0, x_none k0 k12 ?_⟩⟩
      have hq2 := QX.st (x := nI 6) (hqx.s (b := a 12) (k := 6) (x := nI 6) (by rw [o12]; unfold xsc; omega))
      refine hP _ _ _ (fun Q hQ => ?_)
      unfold mw_first
      refine m_wrongRow (least := 1) hTr (by omega) ?_
      rw [e]
      simp (disch := omega) only [forall_eq, forall_eq', exists_eq_left, exists_eq_left', true_and, and_true, true_implies, false_implies, not_true_eq_false, not_false_eq_true, Prod.mk.injEq, Option.some.injEq, reduceCtorEq, and_self, implies_true, eq_self, Classical.not_not, and_false, false_and, ite_true, ite_false, reduceIte, bI_0, or_false, false_or, or_true, true_or, or_self, if_true, if_false, n_le_t, n_le_f, n_lt_t, n_lt_f, n_eq_t, n_eq_f, n_toInt, n_cl, n_vp, n_eqM, M_eqn, n_leM, n_ltM, M_len, M_ltn, M_add, n_sub, iM_toInt, x_lt_t, x_lt_f, x_le_t, x_le_f, lt_x_t, lt_x_f, le_x_t, le_x_f, x_eq_f, nI_add, pk_mul, bI_t, bI_f, Int32.toInt_toInt64, n_subI, x_add0, i_le_t, i_le_f, i_lt_t, i_lt_f, k_le_t, k_le_f, k_lt_t, k_lt_f, li_0, li_1, li_2, li_3, li_4, li_5, li_6, li_7, li_8, li_9, li_10, li_11, li_12, li_16, li_20, li_24, li_25, li_26, li_30, li_31, li_32, li_40, li_48, li_49, li_57, li_59, li_60, li_63, li_64, li_65, li_90, li_96, li_97, li_106, li_122, li_255, li_300, li_600, li_800, li_900, li_1850, li_2000, li_2010, li_2040, li_2801, li_3300, li_4161, li_9999, li_10163, li_16500, li_16800, li_17100, li_18350, li_18510, li_18540, li_65536, li_100000, li_999999, li_1000000, li_2147483647, im_1, im_8, ll_0, ll_1, ll_2, ll_3, ll_4, ll_6, ll_16, ll_20, ll_40, ll_63, ll_800, ll_9999, jm_same, jm_ob, jm_ok, jm_il, jm_li, jm_lsame, jm_lob, jm_lok, Nat.reduceAdd, Nat.reduceMul, Nat.zero_add, Nat.add_zero, Nat.mul_zero, Nat.zero_mul, e_mw_isSmall, e_mw_isDigit, e_mw_isDigit0, e_mw_isGreat, e_xs_isSmall, e_xs_isFigure, e_xs_isGreat, e_mw_isLetter, e_xs_isLetter, e_isBlank, e_xs_isBlank, e_isFrom, e_isIn]
      refine m_waysC hT hi y1 y2 (fun w g1 g2 g3 g4 g5 => ?_)
      rw [hz]
      refine ⟨fun z => absurd rfl z, fun _ => ?_⟩
      simp (disch := omega) only [mw_refuse, forall_eq, forall_eq', exists_eq_left, exists_eq_left', true_and, and_true, true_implies, false_implies, not_true_eq_false, not_false_eq_true, Prod.mk.injEq, Option.some.injEq, reduceCtorEq, and_self, implies_true, eq_self, Classical.not_not, and_false, false_and, ite_true, ite_false, reduceIte, bI_0, or_false, false_or, or_true, true_or, or_self, if_true, if_false, n_le_t, n_le_f, n_lt_t, n_lt_f, n_eq_t, n_eq_f, n_toInt, n_cl, n_vp, n_eqM, M_eqn, n_leM, n_ltM, M_len, M_ltn, M_add, n_sub, iM_toInt, x_lt_t, x_lt_f, x_le_t, x_le_f, lt_x_t, lt_x_f, le_x_t, le_x_f, x_eq_f, nI_add, pk_mul, bI_t, bI_f, Int32.toInt_toInt64, n_subI, x_add0, i_le_t, i_le_f, i_lt_t, i_lt_f, k_le_t, k_le_f, k_lt_t, k_lt_f, li_0, li_1, li_2, li_3, li_4, li_5, li_6, li_7, li_8, li_9, li_10, li_11, li_12, li_16, li_20, li_24, li_25, li_26, li_30, li_31, li_32, li_40, li_48, li_49, li_57, li_59, li_60, li_63, li_64, li_65, li_90, li_96, li_97, li_106, li_122, li_255, li_300, li_600, li_800, li_900, li_1850, li_2000, li_2010, li_2040, li_2801, li_3300, li_4161, li_9999, li_10163, li_16500, li_16800, li_17100, li_18350, li_18510, li_18540, li_65536, li_100000, li_999999, li_1000000, li_2147483647, im_1, im_8, ll_0, ll_1, ll_2, ll_3, ll_4, ll_6, ll_16, ll_20, ll_40, ll_63, ll_800, ll_9999, jm_same, jm_ob, jm_ok, jm_il, jm_li, jm_lsame, jm_lob, jm_lok, Nat.reduceAdd, Nat.reduceMul, Nat.zero_add, Nat.add_zero, Nat.mul_zero, Nat.zero_mul, e_mw_isSmall, e_mw_isDigit, e_mw_isDigit0, e_mw_isGreat, e_xs_isSmall, e_xs_isFigure, e_xs_isGreat, e_mw_isLetter, e_xs_isLetter, e_isBlank, e_xs_isBlank, e_isFrom, e_isIn]
      have hqm : QM m w := fun b k hs => ⟨g1 b k (fun z => hs (by unfold scr; omega)) (fun z => hs (by unfold scr; omega)) (fun z => hs (by unfold scr; omega)), g2 b k⟩
      exact hQ ow _ (hR.q (QM.s (x := nI 6) hqm (show scr 0 1 by unfold scr; omega)) hq2 (by rw [xi_same, jm_same]; rfl))
    · have hne : ¬ nI (wyW (sl m 0) (rwA m i) (fun _ => nI 0) c c 0) ≤ (0 : Int32) := nI_nle (by omega) (by omega)
      have hne0 : ¬ nI (wyW (sl m 0) (rwA m i) (fun _ => nI 0) c c 0) = nI 0 := fun z => by rw [n_eq_f hz (by omega) (by omega)] at z; exact z
      have esl : sl (jm_s m 0 1 (xi v (a 0) 7)) 0 = sl m 0 := sl_so (by omega)
      refine ⟨fun z => absurd z hne, fun _ => ?_⟩
      unfold xw0_first_B34
      refine ⟨k0, 0, 0, by omega, by omega, x_want1 (by decide) ⟨k0, fun u41 e41 u46 e46 => ?_⟩⟩
      have e46' : u46 = xsi (xsi v (a 0) 19 (nI 0)) (a 0) 20 (nI 0) := by rw [e46, e41]; rfl
      have o3 : ow (a 3) = 3 := hR.1.2.1 3 (by omega)
      have hX0 : xFt a v u46 0 0 (fun _ => 0) := by
        rw [e46']
        refine ⟨fun b k h1 h2 => ?_, fun _ _ => rfl, fun _ _ => rfl, ?_, xi_same, fun k hk => by omega⟩
        · have q1 : ¬ (b = a 0 ∧ k = 20) := fun z => h1 (by omega)
          have q2 : ¬ (b = a 0 ∧ k = 19) := fun z => h1 (by omega)
          simp only [xi, xsi, if_neg q1, if_neg q2]
        · rw [xi_ok (by omega), xi_same]
      refine x_firstL (A := rwA m i) (F := fun _ => nI 0) hRv y2 hv hf (by rw [esl]; exact hW) (fun v2 z1 z2 z3 hX2 => ?_) (by rw [esl]; exact hz) hX0
      rw [esl] at z1 z2 z3 hX2 ⊢
      have hpos := ftD_pos (f := fun _ => 0) hT y1 hz
      refine hP _ _ _ (fun Q hQ => ?_)
      unfold mw_first
      refine m_wrongRow (least := 1) hTr (by omega) ?_
      rw [e]
      simp (disch := omega) only [forall_eq, forall_eq', exists_eq_left, exists_eq_left', true_and, and_true, true_implies, false_implies, not_true_eq_false, not_false_eq_true, Prod.mk.injEq, Option.some.injEq, reduceCtorEq, and_self, implies_true, eq_self, Classical.not_not, and_false, false_and, ite_true, ite_false, reduceIte, bI_0, or_false, false_or, or_true, true_or, or_self, if_true, if_false, n_le_t, n_le_f, n_lt_t, n_lt_f, n_eq_t, n_eq_f, n_toInt, n_cl, n_vp, n_eqM, M_eqn, n_leM, n_ltM, M_len, M_ltn, M_add, n_sub, iM_toInt, x_lt_t, x_lt_f, x_le_t, x_le_f, lt_x_t, lt_x_f, le_x_t, le_x_f, x_eq_f, nI_add, pk_mul, bI_t, bI_f, Int32.toInt_toInt64, n_subI, x_add0, i_le_t, i_le_f, i_lt_t, i_lt_f, k_le_t, k_le_f, k_lt_t, k_lt_f, li_0, li_1, li_2, li_3, li_4, li_5, li_6, li_7, li_8, li_9, li_10, li_11, li_12, li_16, li_20, li_24, li_25, li_26, li_30, li_31, li_32, li_40, li_48, li_49, li_57, li_59, li_60, li_63, li_64, li_65, li_90, li_96, li_97, li_106, li_122, li_255, li_300, li_600, li_800, li_900, li_1850, li_2000, li_2010, li_2040, li_2801, li_3300, li_4161, li_9999, li_10163, li_16500, li_16800, li_17100, li_18350, li_18510, li_18540, li_65536, li_100000, li_999999, li_1000000, li_2147483647, im_1, im_8, ll_0, ll_1, ll_2, ll_3, ll_4, ll_6, ll_16, ll_20, ll_40, ll_63, ll_800, ll_9999, jm_same, jm_ob, jm_ok, jm_il, jm_li, jm_lsame, jm_lob, jm_lok, Nat.reduceAdd, Nat.reduceMul, Nat.zero_add, Nat.add_zero, Nat.mul_zero, Nat.zero_mul, e_mw_isSmall, e_mw_isDigit, e_mw_isDigit0, e_mw_isGreat, e_xs_isSmall, e_xs_isFigure, e_xs_isGreat, e_mw_isLetter, e_xs_isLetter, e_isBlank, e_xs_isBlank, e_isFrom, e_isIn]
      refine m_waysC hT hi y1 y2 (fun w g1 g2 g3 g4 g5 => ?_)
      refine ⟨fun _ => ?_, fun z => absurd z hne0⟩
      have hM0 : mFt w (jm_s (jm_s w 0 36 (nI 0)) 0 37 (nI 0)) 0 0 (fun _ => 0) := by
        refine ⟨fun b k h1 h2 => ?_, fun _ _ => rfl, by rw [jm_ok (by omega), jm_same], jm_same, fun k hk => by omega⟩
        have q1 : ¬ (b = 0 ∧ k = 36) := fun z => h1 (by omega)
        have q2 : ¬ (b = 0 ∧ k = 37) := fun z => h1 (by omega)
        simp only [jm_i, jm_s, if_neg q1, if_neg q2]
      refine m_firstL (A := rwA m i) (F := fun _ => nI 0) hT (fun k hk => by rw [g1 _ _ (by omega) (by omega) (by omega)]; exact sl_of hk) y2 g3 g4 g5 (fun w2 hM => ?_) hz hM0
      refine hQ ow _ (hRv.fst (n := jm_s w2 0 1 (nI 0)) z1 z2 z3 hX2.1 hX2.2.1 hX2.2.2.1 hX2.2.2.2.1 hX2.2.2.2.2.1 hX2.2.2.2.2.2 (fun b k hs h1 h2 => ?_) ?_ (fun b k hs => ?_) ?_ ?_ (fun k hk => ?_))
      · have q1 : ¬ (b = 0 ∧ k = 1) := fun z => hs (by unfold scr; omega)
        have f1 : jm_i (jm_s w2 0 1 (nI 0)) b k = jm_i w2 b k := by simp only [jm_i, jm_s, if_neg q1]
        have f2 : jm_i (jm_s m 0 1 (xi v (a 0) 7)) b k = jm_i m b k := by simp only [jm_i, jm_s, if_neg q1]
        rw [f1, f2, hM.1 b k h1 h2, g1 b k (fun z => hs (by unfold scr; omega)) (fun z => hs (by unfold scr; omega)) (fun z => hs (by unfold scr; omega))]
      · rw [jm_same, jm_same, hs0]
      · show jm_l w2 b k = jm_l m b k
        rw [hM.2.1, g2]
      · rw [if_neg hpos, jm_ok (by omega)]
        exact hM.2.2.1
      · rw [jm_ok (by omega)]
        exact hM.2.2.2.1
      · rw [jm_ob (by omega)]
        exact hM.2.2.2.2 k hk
end XCD
