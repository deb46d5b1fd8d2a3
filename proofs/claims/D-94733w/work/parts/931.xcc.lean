/-! PLAIN LAW: truths: the walk over the readings, the reference -/
set_option linter.unusedVariables false
section TRD
variable {n m : MS} {A F : Nat → Int32} {W : Nat → Nat} {many : Nat}
def WV (m : MS) (A F : Nat → Int32) (W : Nat → Nat) (many : Nat) (T p : Nat → Nat) (l : Nat) (n : MS) : Prop :=
  QM m n ∧ (∀ k, k < many → jm_i n 14 k = A k) ∧ (∀ k, k < many → jm_i n 15 k = F k) ∧ (∀ k, k ≤ many → jm_i n 16 k = nI (W k)) ∧ ∀ j, j < l → jm_i n 18 j = nI (T j) ∧ jm_i n 19 j = nI (p j)
theorem WV.s18 {T p : Nat → Nat} {l k : Nat} {x : Int32} (h : WV m A F W many T p l n) (hk : l ≤ k) : WV m A F W many T p l (jm_s n 18 k x) := by
  obtain ⟨h1, h2, h3, h4, h5⟩ := h
  exact ⟨h1.s (by unfold scr; omega), fun j hj => by rw [jm_ob (by omega)]; exact h2 j hj, fun j hj => by rw [jm_ob (by omega)]; exact h3 j hj, fun j hj => by rw [jm_ob (by omega)]; exact h4 j hj, fun j hj => ⟨by rw [jm_ok (by omega)]; exact (h5 j hj).1, by rw [jm_ob (by omega)]; exact (h5 j hj).2⟩⟩
theorem WV.s19 {T p : Nat → Nat} {l k : Nat} {x : Int32} (h : WV m A F W many T p l n) (hk : l ≤ k) : WV m A F W many T p l (jm_s n 19 k x) := by
  obtain ⟨h1, h2, h3, h4, h5⟩ := h
  exact ⟨h1.s (by unfold scr; omega), fun j hj => by rw [jm_ob (by omega)]; exact h2 j hj, fun j hj => by rw [jm_ob (by omega)]; exact h3 j hj, fun j hj => by rw [jm_ob (by omega)]; exact h4 j hj, fun j hj => ⟨by rw [jm_ob (by omega)]; exact (h5 j hj).1, by rw [jm_ok (by omega)]; exact (h5 j hj).2⟩⟩
theorem WV.fr {T p : Nat → Nat} {l : Nat} {v : MS} (h : WV m A F W many T p l n) (h1 : ∀ b k, ¬ (b = 1 ∧ 13200 ≤ k) → ¬ (b = 0 ∧ (k = 20 ∨ k = 21)) → jm_i v b k = jm_i n b k) (h2 : ∀ b k, jm_l v b k = jm_l n b k) : WV m A F W many T p l v := by
  obtain ⟨g1, g2, g3, g4, g5⟩ := h
  have e : ∀ b k, b ≠ 0 → b ≠ 1 → jm_i v b k = jm_i n b k := fun b k h0 h3 => h1 b k (fun z => h3 z.1) (fun z => h0 z.1)
  exact ⟨g1.trans (fun b k q => ⟨h1 b k (fun z => q (by unfold scr; omega)) (fun z => q (by unfold scr; omega)), h2 b k⟩), fun j hj => by rw [e _ _ (by omega) (by omega)]; exact g2 j hj, fun j hj => by rw [e _ _ (by omega) (by omega)]; exact g3 j hj, fun j hj => by rw [e _ _ (by omega) (by omega)]; exact g4 j hj, fun j hj => ⟨by rw [e _ _ (by omega) (by omega)]; exact (g5 j hj).1, by rw [e _ _ (by omega) (by omega)]; exact (g5 j hj).2⟩⟩
/-- one rule at a level -/
theorem m_trS {Q : Int32 → MS → Prop} {R : Int32 → Int32 → MS → Prop} {l r p : Nat} {acc : Int32} {T ps : Nat → Nat} (hT : WT (sl m 0)) (hm : many ≤ 20) (hl : l ≤ p) (hp : p < many) (hr : r < hN (sl m 0) 0) (hV : WV m A F W many T ps l n) (h18 : jm_i n 18 l + nI 1 = nI r) (h19 : jm_i n 19 l = nI p) (hW : ∀ k, W k ≤ 999999)
    (hn : ¬ nxR (sl m 0) A F W many p r → R acc (nI l) (jm_s n 18 l (nI r)))
    (hy : nxR (sl m 0) A F W many p r → (p + hN (sl m 0) (12 + 12 * r + 7) = many → mw_isTrue (nI (l + 1)) (nI many) (jm_s n 18 l (nI r)) (fun r167 u167 => (r167 = 0 → R acc (nI l) u167) ∧ (¬ r167 = 0 → R (acc + nI 1) (nI l) u167))) ∧
      (p + hN (sl m 0) (12 + 12 * r + 7) ≠ many → R acc (nI (l + 1)) (jm_s (jm_s (jm_s n 18 l (nI r)) 18 (l + 1) iM) 19 (l + 1) (nI (p + hN (sl m 0) (12 + 12 * r + 7)))))) :
    mw_truths_L62_S Q (nI many) R acc (nI l) n := by
  have g0 := hT.1.1
  have g0l := hT.1.2
  obtain ⟨_, _, ⟨c0, c0a, c0b⟩, _⟩ := hT.2.2.2.2.2.2 r hr
  have hV2 := hV.s18 (x := nI r) (k := l) (Nat.le_refl _)
  have hsl : ∀ k, k < 3300 → jm_i (jm_s n 18 l (nI r)) 1 k = sl m 0 k := fun k hk => by rw [sl_of (m := jm_s n 18 l (nI r)) hk, QM_sl hV2.1 (by omega)]
  have e19 : jm_i (jm_s n 18 l (nI r)) 19 l = nI p := by rw [jm_ob (by omega), h19]
  have h0 := hsl 0 (by omega)
  unfold mw_truths_L62_S
  refine ⟨fun z => absurd z (by rw [li_0, n_lt_f (by omega) (by omega)]; exact id), fun _ => ⟨vp_in_nI (by omega) (by omega), vp_in_nI (by omega) (by omega), fun u77 e77 => ⟨vp_in_nI (by omega) (by omega), fun v85 e85 => ?_⟩⟩⟩
  rw [n_cl (by omega), li_1, h18] at e77
  subst e77
  rw [n_cl (by omega), jm_same] at e85
  subst e85
  rw [h0, g0]
  refine ⟨fun _ => ⟨vp_in_nI (by omega) (by omega), ?_⟩, fun z => absurd z (by rw [n_eq_f (by omega) (by omega) (by omega)]; exact id)⟩
  rw [n_cl (by omega), e19]
  refine m_reads (A := A) (F := F) hT hsl hr (by omega) hm hV2.2.1 hV2.2.2.1 ?_
  by_cases hrd : rdP (sl m 0) A F r p many
  · rw [cI_t hrd]
    have hle := hrd.2.1
    have hs2 := hsl (12 + 12 * r + 7) (by omega)
    rw [c0] at hs2
    have e16 := hV2.2.2.2.1 (p + hN (sl m 0) (12 + 12 * r + 7)) hle
    have hWl := hW (p + hN (sl m 0) (12 + 12 * r + 7))
    refine ⟨fun _ => ⟨vp_in_nI (by omega) (by omega), ?_⟩, fun z => absurd z (by decide)⟩
    rw [jm_ob (by omega)] at hs2 e16
    simp (disch := omega) only [mw_cellsOf, mw_ruleAt, hs2, h19, e16, forall_eq, forall_eq', exists_eq_left, exists_eq_left', true_and, and_true, true_implies, false_implies, not_true_eq_false, not_false_eq_true, Prod.mk.injEq, Option.some.injEq, reduceCtorEq, and_self, implies_true, eq_self, Classical.not_not, and_false, false_and, ite_true, ite_false, reduceIte, bI_0, or_false, false_or, or_true, true_or, or_self, if_true, if_false, n_le_t, n_le_f, n_lt_t, n_lt_f, n_eq_t, n_eq_f, n_toInt, n_cl, n_vp, n_eqM, M_eqn, n_leM, n_ltM, M_len, M_ltn, M_add, n_sub, iM_toInt, x_lt_t, x_lt_f, x_le_t, x_le_f, lt_x_t, lt_x_f, le_x_t, le_x_f, x_eq_f, nI_add, pk_mul, bI_t, bI_f, Int32.toInt_toInt64, n_subI, x_add0, i_le_t, i_le_f, i_lt_t, i_lt_f, k_le_t, k_le_f, k_lt_t, k_lt_f, li_0, li_1, li_2, li_3, li_4, li_5, li_6, li_7, li_8, li_9, li_10, li_11, li_12, li_16, li_20, li_24, li_25, li_26, li_30, li_31, li_32, li_40, li_48, li_49, li_57, li_59, li_60, li_63, li_64, li_65, li_90, li_96, li_97, li_106, li_122, li_255, li_300, li_600, li_800, li_900, li_1850, li_2000, li_2010, li_2040, li_2801, li_3300, li_4161, li_9999, li_10163, li_16500, li_16800, li_17100, li_18350, li_18510, li_18540, li_65536, li_100000, li_999999, li_1000000, li_2147483647, im_1, im_8, ll_0, ll_1, ll_2, ll_3, ll_4, ll_6, ll_16, ll_20, ll_40, ll_63, ll_800, ll_9999, jm_same, jm_ob, jm_ok, jm_il, jm_li, jm_lsame, jm_lob, jm_lok, Nat.reduceAdd, Nat.reduceMul, Nat.zero_add, Nat.add_zero, Nat.mul_zero, Nat.zero_mul, e_mw_isSmall, e_mw_isDigit, e_mw_isDigit0, e_mw_isGreat, e_xs_isSmall, e_xs_isFigure, e_xs_isGreat, e_mw_isLetter, e_xs_isLetter, e_isBlank, e_xs_isBlank, e_isFrom, e_isIn]
    by_cases hw : W (p + hN (sl m 0) (12 + 12 * r + 7)) = 0
    · refine ⟨fun z => absurd (by rw [hw]) z, fun _ => hn (fun z => z.2 hw)⟩
    · refine ⟨fun _ => ?_, fun z => absurd z (by rw [n_eq_f hw (by omega) (by omega)]; exact id)⟩
      obtain ⟨y1, y2⟩ := hy ⟨hrd, hw⟩
      by_cases hpm : p + hN (sl m 0) (12 + 12 * r + 7) = many
      · refine ⟨fun z => absurd (by rw [hpm]) z, fun _ => ?_⟩
        have := y1 hpm
        simp (disch := omega) only [forall_eq, forall_eq', exists_eq_left, exists_eq_left', true_and, and_true, true_implies, false_implies, not_true_eq_false, not_false_eq_true, Prod.mk.injEq, Option.some.injEq, reduceCtorEq, and_self, implies_true, eq_self, Classical.not_not, and_false, false_and, ite_true, ite_false, reduceIte, bI_0, or_false, false_or, or_true, true_or, or_self, if_true, if_false, n_le_t, n_le_f, n_lt_t, n_lt_f, n_eq_t, n_eq_f, n_toInt, n_cl, n_vp, n_eqM, M_eqn, n_leM, n_ltM, M_len, M_ltn, M_add, n_sub, iM_toInt, x_lt_t, x_lt_f, x_le_t, x_le_f, lt_x_t, lt_x_f, le_x_t, le_x_f, x_eq_f, nI_add, pk_mul, bI_t, bI_f, Int32.toInt_toInt64, n_subI, x_add0, i_le_t, i_le_f, i_lt_t, i_lt_f, k_le_t, k_le_f, k_lt_t, k_lt_f, li_0, li_1, li_2, li_3, li_4, li_5, li_6, li_7, li_8, li_9, li_10, li_11, li_12, li_16, li_20, li_24, li_25, li_26, li_30, li_31, li_32, li_40, li_48, li_49, li_57, li_59, li_60, li_63, li_64, li_65, li_90, li_96, li_97, li_106, li_122, li_255, li_300, li_600, li_800, li_900, li_1850, li_2000, li_2010, li_2040, li_2801, li_3300, li_4161, li_9999, li_10163, li_16500, li_16800, li_17100, li_18350, li_18510, li_18540, li_65536, li_100000, li_999999, li_1000000, li_2147483647, im_1, im_8, ll_0, ll_1, ll_2, ll_3, ll_4, ll_6, ll_16, ll_20, ll_40, ll_63, ll_800, ll_9999, jm_same, jm_ob, jm_ok, jm_il, jm_li, jm_lsame, jm_lob, jm_lok, Nat.reduceAdd, Nat.reduceMul, Nat.zero_add, Nat.add_zero, Nat.mul_zero, Nat.zero_mul, e_mw_isSmall, e_mw_isDigit, e_mw_isDigit0, e_mw_isGreat, e_xs_isSmall, e_xs_isFigure, e_xs_isGreat, e_mw_isLetter, e_xs_isLetter, e_isBlank, e_xs_isBlank, e_isFrom, e_isIn] at this
        exact this
      · refine ⟨fun _ => ?_, fun z => absurd z (by rw [n_eq_f hpm (by omega) (by omega)]; exact id)⟩
        exact y2 hpm
  · rw [cI_f hrd]
    exact ⟨fun z => absurd rfl z, fun _ => hn (fun z => hrd z.1)⟩
set_option maxHeartbeats 8000000 in
theorem m_walk {Q : Int32 → MS → Prop} (hT : WT (sl m 0)) (hm : many ≤ 20) (hW : ∀ k, W k ≤ 999999) : ∀ f p l T ps acc, many ≤ p + f → p < many → l ≤ p → (∀ j, j < l → T j < hN (sl m 0) 0) →
    (∃ q, ∀ n, WV m A F W many T ps l n → mw_truths_L62 Q (nI many) q (nI (acc + tcD (sl m 0) A F W many f p (ptX (sl m 0) T l).1 (ptX (sl m 0) T l).2)) (nI l + iM) n) →
    ∃ q, ∀ n, WV m A F W many T ps l n → jm_i n 18 l = iM → jm_i n 19 l = nI p → mw_truths_L62 Q (nI many) q (nI acc) (nI l) n := by
  intro f
  induction f with
  | zero => intro p l T ps acc h1 h2; omega
  | succ f IH =>
    intro p l T ps acc h1 h2 h3 hTl hk
    have g0 := hT.1.1
    have g0l := hT.1.2
    rw [tcD_s (by omega)] at hk
    have key : ∀ d r, r + d = hN (sl m 0) 0 → ∃ q, ∀ n, WV m A F W many T ps l n → jm_i n 18 l + nI 1 = nI r → jm_i n 19 l = nI p → mw_truths_L62 Q (nI many) q (nI (acc + it (tcI (sl m 0) A F W many f p (ptX (sl m 0) T l).1 (ptX (sl m 0) T l).2) 0 r)) (nI l) n := by
      intro d
      induction d with
      | zero =>
        intro r hr
        have er : r = hN (sl m 0) 0 := by omega
        rw [← er] at hk
        obtain ⟨q, hq⟩ := hk
        refine ⟨q + 1, fun n hV h18 h19 => ?_⟩
        have hV2 := hV.s18 (x := nI r) (k := l) (Nat.le_refl _)
        have h0 : jm_i (jm_s n 18 l (nI r)) 1 0 = nI r := by rw [sl_of (m := jm_s n 18 l (nI r)) (by omega), QM_sl hV2.1 (by omega), g0, er]
        generalize it (tcI (sl m 0) A F W many f p (ptX (sl m 0) T l).1 (ptX (sl m 0) T l).2) 0 r = x at hq ⊢
        rw [mw_truths_L62]
        unfold mw_truths_L62_S
        refine ⟨fun z => absurd z (by rw [li_0, n_lt_f (by omega) (by omega)]; exact id), fun _ => ⟨vp_in_nI (by omega) (by omega), vp_in_nI (by omega) (by omega), fun u77 e77 => ⟨vp_in_nI (by omega) (by omega), fun v85 e85 => ?_⟩⟩⟩
        rw [n_cl (by omega), li_1, h18] at e77
        subst e77
        rw [n_cl (by omega), jm_same] at e85
        subst e85
        rw [h0]
        refine ⟨fun z => absurd rfl z, fun _ v98 e98 => ?_⟩
        subst e98
        exact hq _ hV2
      | succ d ihd =>
        intro r hr
        obtain ⟨q1, ih⟩ := ihd (r + 1) (by omega)
        rw [it_s] at ih
        generalize it (tcI (sl m 0) A F W many f p (ptX (sl m 0) T l).1 (ptX (sl m 0) T l).2) 0 r = x at ih ⊢
        have hc := (hT.2.2.2.2.2.2 r (by omega)).2.2.1.2.1
        have nx1 : ∀ n, jm_i (jm_s n 18 l (nI r)) 18 l + nI 1 = nI (r + 1) := fun n => by rw [jm_same, nI_add]
        have eT : ptX (sl m 0) (up T l r) (l + 1) = ((ptX (sl m 0) T l).1 + hN (sl m 0) (12 + 12 * r), apB (sl m 0) (ptX (sl m 0) T l).2 (ptX (sl m 0) T l).1 r) := by
          show ((ptX (sl m 0) (up T l r) l).1 + hN (sl m 0) (12 + 12 * (up T l r) l), apB (sl m 0) (ptX (sl m 0) (up T l r) l).2 (ptX (sl m 0) (up T l r) l).1 ((up T l r) l)) = _
          rw [ptX_c l (T2 := T) (fun j hj => up_n (by omega)), up_s]
        have hTu : ∀ j, j < l + 1 → up T l r j < hN (sl m 0) 0 := fun j hj => by
          by_cases z : j = l
          · subst z; rw [up_s]; omega
          · rw [up_n z]; exact hTl j (by omega)
        by_cases hnx : nxR (sl m 0) A F W many p r
        · rw [tcI_t hnx] at ih
          by_cases hpm : p + hN (sl m 0) (12 + 12 * r + 7) = many
          · rw [tcD_m hpm] at ih
            refine ⟨q1 + 1, fun n hV h18 h19 => ?_⟩
            rw [mw_truths_L62]
            refine m_trS hT hm h3 h2 (by omega) hV h18 h19 hW (fun z => absurd hnx z) (fun _ => ⟨fun _ => ?_, fun z => absurd hpm z⟩)
            have hV2 := hV.s18 (x := nI r) (k := l) (Nat.le_refl _)
            refine m_isTrue (T := up T l r) (A := A) hT hV2.1 hm (by omega) (fun j hj => ⟨?_, hTu j hj⟩) hV2.2.1 (fun v hv1 hv2 => ?_)
            · by_cases z : j = l
              · subst z; rw [up_s]; exact jm_same
              · rw [up_n z]; exact (hV2.2.2.2.2 j (by omega)).1
            · rw [eT]
              have hV3 := hV2.fr hv1 hv2
              have a1 : jm_i v 18 l + nI 1 = nI (r + 1) := by rw [hv1 _ _ (by omega) (by omega)]; exact nx1 n
              have a2 : jm_i v 19 l = nI p := by rw [hv1 _ _ (by omega) (by omega), jm_ob (by omega), h19]
              have := ih v hV3 a1 a2
              by_cases c : isTr (sl m 0) A many (apB (sl m 0) (ptX (sl m 0) T l).2 (ptX (sl m 0) T l).1 r) ((ptX (sl m 0) T l).1 + hN (sl m 0) (12 + 12 * r))
              · rw [cI_t c] at this ⊢
                refine ⟨fun z => absurd z (by decide), fun _ => ?_⟩
                rw [nI_add]
                exact this
              · rw [cI_f c] at this ⊢
                exact ⟨fun _ => this, fun z => absurd rfl z⟩
          · have hle := hnx.1.2.1
            obtain ⟨q2, h2'⟩ := IH (p + hN (sl m 0) (12 + 12 * r + 7)) (l + 1) (up T l r) (up ps l p) (acc + x) (by omega) (by omega) (by omega) hTu ⟨q1, fun n hV => by
              rw [eT, show (acc + x + tcD (sl m 0) A F W many f (p + hN (sl m 0) (12 + 12 * r + 7)) ((ptX (sl m 0) T l).1 + hN (sl m 0) (12 + 12 * r)) (apB (sl m 0) (ptX (sl m 0) T l).2 (ptX (sl m 0) T l).1 r)) = acc + (x + tcD (sl m 0) A F W many f (p + hN (sl m 0) (12 + 12 * r + 7)) ((ptX (sl m 0) T l).1 + hN (sl m 0) (12 + 12 * r)) (apB (sl m 0) (ptX (sl m 0) T l).2 (ptX (sl m 0) T l).1 r)) from Nat.add_assoc _ _ _, M_add (by omega), Nat.add_sub_cancel]
              obtain ⟨v1, v2, v3, v4, v5⟩ := hV
              have v6 := v5 l (by omega)
              rw [up_s, up_s] at v6
              exact ih n ⟨v1, v2, v3, v4, fun j hj => by have := v5 j (by omega); rw [up_n (by omega), up_n (by omega)] at this; exact this⟩ (by rw [v6.1, nI_add]) v6.2⟩
            refine ⟨q2 + 1, fun n hV h18 h19 => ?_⟩
            rw [mw_truths_L62]
            refine m_trS hT hm h3 h2 (by omega) hV h18 h19 hW (fun z => absurd hnx z) (fun _ => ⟨fun z => absurd z hpm, fun _ => ?_⟩)
            have hV2 := ((hV.s18 (x := nI r) (k := l) (Nat.le_refl _)).s18 (x := iM) (k := l + 1) (by omega)).s19 (x := nI (p + hN (sl m 0) (12 + 12 * r + 7))) (k := l + 1) (by omega)
            refine h2' _ ⟨hV2.1, hV2.2.1, hV2.2.2.1, hV2.2.2.2.1, fun j hj => ?_⟩ (by rw [jm_ob (by omega), jm_same]) jm_same
            by_cases z : j = l
            · subst z
              rw [up_s, up_s]
              exact ⟨by rw [jm_ob (by omega), jm_ok (by omega), jm_same], by rw [jm_ok (by omega), jm_ob (by omega), jm_ob (by omega), h19]⟩
            · rw [up_n z, up_n z]
              exact hV2.2.2.2.2 j (by omega)
        · rw [tcI_f hnx] at ih
          refine ⟨q1 + 1, fun n hV h18 h19 => ?_⟩
          rw [mw_truths_L62]
          refine m_trS hT hm h3 h2 (by omega) hV h18 h19 hW (fun _ => ?_) (fun z => absurd z hnx)
          exact ih _ (hV.s18 (Nat.le_refl _)) (nx1 n) (by rw [jm_ob (by omega), h19])
    obtain ⟨q, hq⟩ := key (hN (sl m 0) 0) 0 (by omega)
    refine ⟨q, fun n hV h18 h19 => ?_⟩
    have := hq n hV (by rw [h18]; rfl) h19
    exact this
end TRD
