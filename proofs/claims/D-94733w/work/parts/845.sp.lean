/-! PLAIN LAW: the reference's setting, whole -/
set_option linter.unusedVariables false
theorem srS_o {h w : Nat → Int32} {r j : Nat} (hT : WT h) (hS : SI h w) (hr : r < hN h 0) (h8 : hN w 8 + 3 ≤ 1250) (h9 : hN w 9 ≤ 150) (hj : 1850 ≤ j) (hj2 : j < 2010) : srS h r w j = w j := by
  obtain ⟨⟨_, g0⟩, _, _, _, _, _, gr⟩ := hT
  obtain ⟨_, _, ⟨_, c1, c3⟩, gc, _⟩ := gr r hr
  have key := it_inv (f := srC h r) (a := w) (fun k v => v j = w j ∧ SI h v ∧ hN v 8 = hN w 8 + k ∧ hN v 9 = hN w 9) ⟨rfl, hS, rfl, rfl⟩ (hN h (12 + 12 * r + 7)) (fun k v hk hv => by
    obtain ⟨i0, i1, i2, i3⟩ := hv
    obtain ⟨z1, z2, z3⟩ := gc k hk
    obtain ⟨j1, j2, j3, j4⟩ := i1.set (by omega) (by omega) z1 (by omega) (by0 := nI r) (Or.inr ⟨r, rfl, hr, by omega⟩)
    exact ⟨by unfold srC; rw [sS_o (by omega) (by omega) (by omega), i0], j1, by unfold srC; omega, by unfold srC; omega⟩)
  unfold srS
  rw [srU_o (by omega) (by omega), key.1]
theorem swS_o {h w : Nat → Int32} {r j : Nat} (hT : WT h) (hS : SI h w) (hr : r < hN h 0) (h8 : hN w 8 + 3 ≤ 1250) (h9 : hN w 9 ≤ 150) (hj : 1850 ≤ j) (hj2 : j < 2010) : swS h r w j = w j := by
  unfold swS
  rw [up_n (by omega), srS_o hT hS hr h8 h9 hj hj2]
theorem wdS_o {h b : Nat → Int32} {g : Int32} {first last bn : Nat} (hT : WT h) (hl : last ≤ 300) : ∀ f p w, WB b bn w → SI h w → hN w 8 ≤ 4 * p → hN w 9 ≤ 150 → p ≤ last → WB b bn (wdS h b g first last f p w).2 ∧ ∀ j, 1850 ≤ j → j < 2010 → (wdS h b g first last f p w).2 j = w j
  | 0, p, w, hB, hS, h8, h9, hp => ⟨hB, fun _ _ _ => rfl⟩
  | f + 1, p, w, hB, hS, h8, h9, hp => by
    unfold wdS
    by_cases c : last ≤ p
    · rw [if_pos c]; exact ⟨hB, fun _ _ _ => rfl⟩
    · rw [if_neg c]
      cases ht : tkS h b g p first last (hN h 0) with
      | none => exact ⟨hB, fun _ _ _ => rfl⟩
      | some r =>
        simp only
        obtain ⟨hr, _, hst⟩ := tkS_some _ _ ht
        have hT2 := hT
        obtain ⟨⟨_, g0⟩, ⟨g1, g1l⟩, _, _, _, _, gr⟩ := hT2
        obtain ⟨⟨_, l1, l6⟩, _, ⟨_, c1, c3⟩, gc, _⟩ := gr r hr
        have hpl : p + hN h (12 + 12 * r) ≤ last := hst.1
        by_cases cg : inR (b p) 65 90
        · rw [if_pos cg]
          by_cases ch : h 1 = nI 0
          · rw [if_pos ch]; exact ⟨hB, fun _ _ _ => rfl⟩
          · rw [if_neg ch]
            obtain ⟨i1, i2, i3, _⟩ := hS.set (v := h 1) (by0 := iM) (by omega) h9 g1 g1l (Or.inl rfl)
            obtain ⟨j1, j2, j3⟩ := i1.word1 hT hr (by omega) (by omega)
            obtain ⟨k1, k2⟩ := wdS_o hT hl f (p + hN h (12 + 12 * r)) (swS h r (sS (h 1) iM w)) (hB.sS.swS (by omega)) j1 (by omega) (by omega) hpl
            exact ⟨k1, fun j h1 h2 => by rw [k2 j h1 h2, swS_o hT i1 hr (by omega) (by omega) h1 h2, sS_o (by omega) (by omega) (by omega)]⟩
        · rw [if_neg cg]
          obtain ⟨j1, j2, j3⟩ := hS.word1 hT hr (by omega) h9
          obtain ⟨k1, k2⟩ := wdS_o hT hl f (p + hN h (12 + 12 * r)) (swS h r w) (hB.swS (by omega)) j1 (by omega) (by omega) hpl
          exact ⟨k1, fun j h1 h2 => by rw [k2 j h1 h2, swS_o hT hS hr (by omega) (by omega) h1 h2]⟩
theorem dgS_o {h b : Nat → Int32} {g : Int32} {bn : Nat} (hT : WT h) (hbn : bn ≤ 300) (hb : ∀ k, bn ≤ k → b k = nI 32) : ∀ f p w, WB b bn w → SI h w → hN w 8 + 3 ≤ 4 * p + 4 → hN w 9 ≤ 150 → WB b bn (dgS h b g f p w).2.2 ∧ ∀ j, 1850 ≤ j → j < 2010 → (dgS h b g f p w).2.2 j = w j
  | 0, p, w, hB, hS, h8, h9 => ⟨hB, fun _ _ _ => rfl⟩
  | f + 1, p, w, hB, hS, h8, h9 => by
    unfold dgS
    by_cases c : inR (b p) 48 57
    · rw [if_pos c]
      have hpb : p < bn := by
        rcases Nat.lt_or_ge p bn with q | q
        · exact q
        · rw [hb p q] at c; unfold inR at c; rw [n_toInt (by omega)] at c; omega
      cases ht : jsS h (fgL (b p)) g with
      | none => exact ⟨hB, fun _ _ _ => rfl⟩
      | some r =>
        simp only
        obtain ⟨hr, _⟩ := fsS_some ht
        have hT2 := hT
        obtain ⟨⟨_, g0⟩, _, _, _, _, _, gr⟩ := hT2
        obtain ⟨_, _, ⟨_, c1, c3⟩, _, _⟩ := gr r hr
        obtain ⟨i1, i2, i3, _⟩ := hS.rule hT hr (by omega) h9
        obtain ⟨k1, k2⟩ := dgS_o hT hbn hb f (p + 1) (srS h r w) (hB.srS (by omega)) i1 (by omega) (by omega)
        exact ⟨k1, fun j h1 h2 => by rw [k2 j h1 h2, srS_o hT hS hr (by omega) h9 h1 h2]⟩
    · rw [if_neg c]; exact ⟨hB, fun _ _ _ => rfl⟩
theorem TI.blank {h b : Nat → Int32} {p : Nat} {w : Nat → Int32} (hT : TI h b p w) (hb : isB (b p)) : TI h b (p + 1) w := by
  obtain ⟨t1, t2, t3, t4, t5, t6, t7⟩ := hT
  exact ⟨t1, t2, by omega, by omega, fun _ _ => ⟨by omega, by omega⟩, fun _ z => absurd hb z, fun z => by omega⟩
/-- behind a word or a figure -/
theorem TI.item {h b : Nat → Int32} {p q : Nat} {w v : Nat → Int32} (hpq : p < q) (hv : SI h v) (h8 : hN w 8 + 1 ≤ hN v 8) (h82 : hN v 8 ≤ 4 * q) (h9 : hN v 9 = hN w 9) (h92 : 2 * hN w 9 ≤ p + 2) (h0 : 0 < hN w 9) (hl : hN w (1850 + (hN w 9 - 1)) ≤ hN w 8) (ho : v (1850 + (hN w 9 - 1)) = w (1850 + (hN w 9 - 1))) (hb : ¬ isB (b (q - 1))) : TI h b q v := by
  have e : hN v (1850 + (hN w 9 - 1)) = hN w (1850 + (hN w 9 - 1)) := congrArg Int32.toNatClampNeg ho
  refine ⟨hv, fun _ => ?_, h82, by omega, fun _ z => absurd z hb, fun _ _ => by omega, fun z => by omega⟩
  rw [h9, e]; omega
theorem notB_L {c : Int32} (h : isL c) : ¬ isB c := by
  intro z
  have : c.toInt = 10 ∨ c.toInt = 32 := by
    rcases z with z | z
    · left; rw [z, n_toInt (by omega)]; rfl
    · right; rw [z, n_toInt (by omega)]; rfl
  unfold isL inR at h; omega
theorem notB_D {c : Int32} (h : inR c 48 57) : ¬ isB c := by
  intro z
  have : c.toInt = 10 ∨ c.toInt = 32 := by
    rcases z with z | z
    · left; rw [z, n_toInt (by omega)]; rfl
    · right; rw [z, n_toInt (by omega)]; rfl
  unfold inR at h; omega
theorem notD_L {c : Int32} (h : isL c) : ¬ inR c 48 57 := by
  unfold isL inR at h; unfold inR; omega
/-- a word, a figure, wholly set, between two looks -/
theorem TI.word {h b : Nat → Int32} {g : Int32} {bn p : Nat} {w v : Nat → Int32} (hT : WT h) (hB : WB b bn w) (hI : TI h b p w) (hp : p < bn) (hL : isL (b p)) (he : wdS h b g p (weS b bn p) (weS b bn p - p + 1) p (piS b p w) = (none, v)) : TI h b (weS b bn p) v ∧ WB b bn v := by
  have hbn := hB.2.1
  have hle := weS_le (b := b) (bn := bn) (p := p) (by omega)
  have hlt := weS_lt hB.2.2.2 hL
  obtain ⟨i1, i2, i3, i4, i5⟩ := hI.pi (by omega)
  have e1 : (wdS h b g p (weS b bn p) (weS b bn p - p + 1) p (piS b p w)).1 = none := by rw [he]
  have e2 : (wdS h b g p (weS b bn p) (weS b bn p - p + 1) p (piS b p w)).2 = v := by rw [he]
  have k := SI.word (b := b) (g := g) (first := p) hT (show weS b bn p ≤ 300 by omega) (weS b bn p - p + 1) p (piS b p w) i1 i2 (by omega) (by omega) (by omega) e1
  have o := wdS_o (b := b) (g := g) (first := p) (bn := bn) hT (show weS b bn p ≤ 300 by omega) (weS b bn p - p + 1) p (piS b p w) hB.pis i1 i2 (by omega) (by omega)
  rw [e2] at k o
  obtain ⟨k1, k2, k3, k4, k5⟩ := k
  have hl := weS_in (b := b) (bn := bn) (p := p) (q := weS b bn p - 1) (by omega) (by omega)
  exact ⟨TI.item hlt k1 (k4 hlt) k2 k3 i3 i4 i5 (o.2 _ (by omega) (by omega)) (notB_L hl), o.1⟩
theorem TI.figure {h b : Nat → Int32} {g : Int32} {bn p q : Nat} {w v : Nat → Int32} (hT : WT h) (hB : WB b bn w) (hI : TI h b p w) (hp : p < bn) (hD : inR (b p) 48 57) (he : dgS h b g (bn - p + 1) p (sS (h 2) iM (piS b p w)) = (none, q, v)) : TI h b q v ∧ WB b bn v ∧ p < q ∧ q ≤ bn := by
  have hbn := hB.2.1
  obtain ⟨i1, i2, i3, i4, i5⟩ := hI.pi (by omega)
  have hT2 := hT
  obtain ⟨_, _, ⟨g2, g2l⟩, _⟩ := hT2
  obtain ⟨s1, s2, s3, _⟩ := i1.set (v := h 2) (by0 := iM) (by omega) (by omega) g2 g2l (Or.inl rfl)
  have e1 : (dgS h b g (bn - p + 1) p (sS (h 2) iM (piS b p w))).1 = none := by rw [he]
  have e2 : (dgS h b g (bn - p + 1) p (sS (h 2) iM (piS b p w))).2.1 = q := by rw [he]
  have e3 : (dgS h b g (bn - p + 1) p (sS (h 2) iM (piS b p w))).2.2 = v := by rw [he]
  have k := SI.digits (b := b) (g := g) hT hbn hB.2.2.2 (bn - p + 1) p (sS (h 2) iM (piS b p w)) s1 (by omega) (by omega) (by omega) (by omega) e1
  have o := dgS_o (b := b) (g := g) hT hbn hB.2.2.2 (bn - p + 1) p (sS (h 2) iM (piS b p w)) hB.pis.sS s1 (by omega) (by omega)
  rw [e2, e3] at k
  rw [e3] at o
  obtain ⟨k1, k2, k3, k4, k5, k6, k7, k8, k9⟩ := k
  have hq := k8 hD
  obtain ⟨m1, m2⟩ := k7 hq
  refine ⟨TI.item hq k1 (by omega) m1 (by omega) i3 i4 i5 ?_ (notB_D m2), o.1, hq, k6⟩
  rw [o.2 _ (by omega) (by omega), sS_o (by omega) (by omega) (by omega)]
section SME
variable {b : Nat → Int32} {bn : Nat} {u : MS}
set_option maxHeartbeats 4000000 in
theorem m_setsAll_L {g : Int32} {P : Int32 → MS → Prop} (hT : WT (sl u 0)) (hbn : bn ≤ 300) : ∀ f p w, WB b bn w → TI (sl u 0) b p w → p ≤ bn → bn < p + f →
    P (mOk (saS (sl u 0) b g bn f p w).1) (MK (mErr u (saS (sl u 0) b g bn f p w).1) (saS (sl u 0) b g bn f p w).2) → mw_setsAll_L63 P g f (nI p) (MK u w)
  | 0, p, w, hB, hI, hp, hlf, h => by omega
  | f + 1, p, w, hB, hI, hp, hlf, h => by
    have h7 := hB.1
    unfold saS at h
    unfold mw_setsAll_L63 mw_setsAll_L63_S
    by_cases c : bn ≤ p
    · rw [if_pos c] at h
      simp (disch := omega) only [MK_7, h7, forall_eq, forall_eq', exists_eq_left, exists_eq_left', true_and, and_true, true_implies, false_implies, not_true_eq_false, not_false_eq_true, Prod.mk.injEq, Option.some.injEq, reduceCtorEq, and_self, implies_true, eq_self, Classical.not_not, and_false, false_and, ite_true, ite_false, reduceIte, bI_0, or_false, false_or, or_true, true_or, or_self, if_true, if_false, n_le_t, n_le_f, n_lt_t, n_lt_f, n_eq_t, n_eq_f, n_toInt, n_cl, n_vp, n_eqM, M_eqn, n_leM, n_ltM, M_len, M_ltn, M_add, n_sub, iM_toInt, x_lt_t, x_lt_f, x_le_t, x_le_f, lt_x_t, lt_x_f, le_x_t, le_x_f, x_eq_f, nI_add, pk_mul, bI_t, bI_f, Int32.toInt_toInt64, n_subI, x_add0, i_le_t, i_le_f, i_lt_t, i_lt_f, k_le_t, k_le_f, k_lt_t, k_lt_f, li_0, li_1, li_2, li_3, li_4, li_5, li_6, li_7, li_8, li_9, li_10, li_11, li_12, li_16, li_20, li_24, li_25, li_26, li_30, li_31, li_32, li_40, li_48, li_49, li_57, li_59, li_60, li_63, li_64, li_65, li_90, li_96, li_97, li_106, li_122, li_255, li_300, li_600, li_800, li_900, li_1850, li_2000, li_2010, li_2040, li_2801, li_3300, li_4161, li_9999, li_10163, li_16500, li_16800, li_17100, li_18350, li_18510, li_18540, li_65536, li_100000, li_999999, li_1000000, li_2147483647, im_1, im_8, ll_0, ll_1, ll_2, ll_3, ll_4, ll_6, ll_16, ll_20, ll_40, ll_63, ll_800, ll_9999, jm_same, jm_ob, jm_ok, jm_il, jm_li, jm_lsame, jm_lob, jm_lok, Nat.reduceAdd, Nat.reduceMul, Nat.zero_add, Nat.add_zero, Nat.mul_zero, Nat.zero_mul, e_mw_isSmall, e_mw_isDigit, e_mw_isDigit0, e_mw_isGreat, e_xs_isSmall, e_xs_isFigure, e_xs_isGreat, e_mw_isLetter, e_xs_isLetter, e_isBlank, e_xs_isBlank, e_isFrom, e_isIn]
      exact h
    · rw [if_neg c] at h
      simp (disch := omega) only [MK_7, h7, forall_eq, forall_eq', exists_eq_left, exists_eq_left', true_and, and_true, true_implies, false_implies, not_true_eq_false, not_false_eq_true, Prod.mk.injEq, Option.some.injEq, reduceCtorEq, and_self, implies_true, eq_self, Classical.not_not, and_false, false_and, ite_true, ite_false, reduceIte, bI_0, or_false, false_or, or_true, true_or, or_self, if_true, if_false, n_le_t, n_le_f, n_lt_t, n_lt_f, n_eq_t, n_eq_f, n_toInt, n_cl, n_vp, n_eqM, M_eqn, n_leM, n_ltM, M_len, M_ltn, M_add, n_sub, iM_toInt, x_lt_t, x_lt_f, x_le_t, x_le_f, lt_x_t, lt_x_f, le_x_t, le_x_f, x_eq_f, nI_add, pk_mul, bI_t, bI_f, Int32.toInt_toInt64, n_subI, x_add0, i_le_t, i_le_f, i_lt_t, i_lt_f, k_le_t, k_le_f, k_lt_t, k_lt_f, li_0, li_1, li_2, li_3, li_4, li_5, li_6, li_7, li_8, li_9, li_10, li_11, li_12, li_16, li_20, li_24, li_25, li_26, li_30, li_31, li_32, li_40, li_48, li_49, li_57, li_59, li_60, li_63, li_64, li_65, li_90, li_96, li_97, li_106, li_122, li_255, li_300, li_600, li_800, li_900, li_1850, li_2000, li_2010, li_2040, li_2801, li_3300, li_4161, li_9999, li_10163, li_16500, li_16800, li_17100, li_18350, li_18510, li_18540, li_65536, li_100000, li_999999, li_1000000, li_2147483647, im_1, im_8, ll_0, ll_1, ll_2, ll_3, ll_4, ll_6, ll_16, ll_20, ll_40, ll_63, ll_800, ll_9999, jm_same, jm_ob, jm_ok, jm_il, jm_li, jm_lsame, jm_lob, jm_lok, Nat.reduceAdd, Nat.reduceMul, Nat.zero_add, Nat.add_zero, Nat.mul_zero, Nat.zero_mul, e_mw_isSmall, e_mw_isDigit, e_mw_isDigit0, e_mw_isGreat, e_xs_isSmall, e_xs_isFigure, e_xs_isGreat, e_mw_isLetter, e_xs_isLetter, e_isBlank, e_xs_isBlank, e_isFrom, e_isIn]
      refine m_byteOf hB (by omega) ?_
      by_cases cb : isB (b p)
      · rw [if_pos cb] at h
        simp (disch := omega) only [cb, forall_eq, forall_eq', exists_eq_left, exists_eq_left', true_and, and_true, true_implies, false_implies, not_true_eq_false, not_false_eq_true, Prod.mk.injEq, Option.some.injEq, reduceCtorEq, and_self, implies_true, eq_self, Classical.not_not, and_false, false_and, ite_true, ite_false, reduceIte, bI_0, or_false, false_or, or_true, true_or, or_self, if_true, if_false, n_le_t, n_le_f, n_lt_t, n_lt_f, n_eq_t, n_eq_f, n_toInt, n_cl, n_vp, n_eqM, M_eqn, n_leM, n_ltM, M_len, M_ltn, M_add, n_sub, iM_toInt, x_lt_t, x_lt_f, x_le_t, x_le_f, lt_x_t, lt_x_f, le_x_t, le_x_f, x_eq_f, nI_add, pk_mul, bI_t, bI_f, Int32.toInt_toInt64, n_subI, x_add0, i_le_t, i_le_f, i_lt_t, i_lt_f, k_le_t, k_le_f, k_lt_t, k_lt_f, li_0, li_1, li_2, li_3, li_4, li_5, li_6, li_7, li_8, li_9, li_10, li_11, li_12, li_16, li_20, li_24, li_25, li_26, li_30, li_31, li_32, li_40, li_48, li_49, li_57, li_59, li_60, li_63, li_64, li_65, li_90, li_96, li_97, li_106, li_122, li_255, li_300, li_600, li_800, li_900, li_1850, li_2000, li_2010, li_2040, li_2801, li_3300, li_4161, li_9999, li_10163, li_16500, li_16800, li_17100, li_18350, li_18510, li_18540, li_65536, li_100000, li_999999, li_1000000, li_2147483647, im_1, im_8, ll_0, ll_1, ll_2, ll_3, ll_4, ll_6, ll_16, ll_20, ll_40, ll_63, ll_800, ll_9999, jm_same, jm_ob, jm_ok, jm_il, jm_li, jm_lsame, jm_lob, jm_lok, Nat.reduceAdd, Nat.reduceMul, Nat.zero_add, Nat.add_zero, Nat.mul_zero, Nat.zero_mul, e_mw_isSmall, e_mw_isDigit, e_mw_isDigit0, e_mw_isGreat, e_xs_isSmall, e_xs_isFigure, e_xs_isGreat, e_mw_isLetter, e_xs_isLetter, e_isBlank, e_xs_isBlank, e_isFrom, e_isIn]
        exact m_setsAll_L hT hbn f (p + 1) w hB (hI.blank cb) (by omega) (by omega) h
      · rw [if_neg cb] at h
        obtain ⟨i1, i2, i3, i4, i5⟩ := hI.pi (by omega)
        by_cases cl : isL (b p)
        · rw [if_neg (fun z => z.1 cl), if_pos cl] at h
          simp (disch := omega) only [cb, cl, forall_eq, forall_eq', exists_eq_left, exists_eq_left', true_and, and_true, true_implies, false_implies, not_true_eq_false, not_false_eq_true, Prod.mk.injEq, Option.some.injEq, reduceCtorEq, and_self, implies_true, eq_self, Classical.not_not, and_false, false_and, ite_true, ite_false, reduceIte, bI_0, or_false, false_or, or_true, true_or, or_self, if_true, if_false, n_le_t, n_le_f, n_lt_t, n_lt_f, n_eq_t, n_eq_f, n_toInt, n_cl, n_vp, n_eqM, M_eqn, n_leM, n_ltM, M_len, M_ltn, M_add, n_sub, iM_toInt, x_lt_t, x_lt_f, x_le_t, x_le_f, lt_x_t, lt_x_f, le_x_t, le_x_f, x_eq_f, nI_add, pk_mul, bI_t, bI_f, Int32.toInt_toInt64, n_subI, x_add0, i_le_t, i_le_f, i_lt_t, i_lt_f, k_le_t, k_le_f, k_lt_t, k_lt_f, li_0, li_1, li_2, li_3, li_4, li_5, li_6, li_7, li_8, li_9, li_10, li_11, li_12, li_16, li_20, li_24, li_25, li_26, li_30, li_31, li_32, li_40, li_48, li_49, li_57, li_59, li_60, li_63, li_64, li_65, li_90, li_96, li_97, li_106, li_122, li_255, li_300, li_600, li_800, li_900, li_1850, li_2000, li_2010, li_2040, li_2801, li_3300, li_4161, li_9999, li_10163, li_16500, li_16800, li_17100, li_18350, li_18510, li_18540, li_65536, li_100000, li_999999, li_1000000, li_2147483647, im_1, im_8, ll_0, ll_1, ll_2, ll_3, ll_4, ll_6, ll_16, ll_20, ll_40, ll_63, ll_800, ll_9999, jm_same, jm_ob, jm_ok, jm_il, jm_li, jm_lsame, jm_lob, jm_lok, Nat.reduceAdd, Nat.reduceMul, Nat.zero_add, Nat.add_zero, Nat.mul_zero, Nat.zero_mul, e_mw_isSmall, e_mw_isDigit, e_mw_isDigit0, e_mw_isGreat, e_xs_isSmall, e_xs_isFigure, e_xs_isGreat, e_mw_isLetter, e_xs_isLetter, e_isBlank, e_xs_isBlank, e_isFrom, e_isIn]
          refine m_newPiece hB hI (by omega) hbn ?_
          unfold mw_setsAll_B186
          simp (disch := omega) only [cl, forall_eq, forall_eq', exists_eq_left, exists_eq_left', true_and, and_true, true_implies, false_implies, not_true_eq_false, not_false_eq_true, Prod.mk.injEq, Option.some.injEq, reduceCtorEq, and_self, implies_true, eq_self, Classical.not_not, and_false, false_and, ite_true, ite_false, reduceIte, bI_0, or_false, false_or, or_true, true_or, or_self, if_true, if_false, n_le_t, n_le_f, n_lt_t, n_lt_f, n_eq_t, n_eq_f, n_toInt, n_cl, n_vp, n_eqM, M_eqn, n_leM, n_ltM, M_len, M_ltn, M_add, n_sub, iM_toInt, x_lt_t, x_lt_f, x_le_t, x_le_f, lt_x_t, lt_x_f, le_x_t, le_x_f, x_eq_f, nI_add, pk_mul, bI_t, bI_f, Int32.toInt_toInt64, n_subI, x_add0, i_le_t, i_le_f, i_lt_t, i_lt_f, k_le_t, k_le_f, k_lt_t, k_lt_f, li_0, li_1, li_2, li_3, li_4, li_5, li_6, li_7, li_8, li_9, li_10, li_11, li_12, li_16, li_20, li_24, li_25, li_26, li_30, li_31, li_32, li_40, li_48, li_49, li_57, li_59, li_60, li_63, li_64, li_65, li_90, li_96, li_97, li_106, li_122, li_255, li_300, li_600, li_800, li_900, li_1850, li_2000, li_2010, li_2040, li_2801, li_3300, li_4161, li_9999, li_10163, li_16500, li_16800, li_17100, li_18350, li_18510, li_18540, li_65536, li_100000, li_999999, li_1000000, li_2147483647, im_1, im_8, ll_0, ll_1, ll_2, ll_3, ll_4, ll_6, ll_16, ll_20, ll_40, ll_63, ll_800, ll_9999, jm_same, jm_ob, jm_ok, jm_il, jm_li, jm_lsame, jm_lob, jm_lok, Nat.reduceAdd, Nat.reduceMul, Nat.zero_add, Nat.add_zero, Nat.mul_zero, Nat.zero_mul, e_mw_isSmall, e_mw_isDigit, e_mw_isDigit0, e_mw_isGreat, e_xs_isSmall, e_xs_isFigure, e_xs_isGreat, e_mw_isLetter, e_xs_isLetter, e_isBlank, e_xs_isBlank, e_isFrom, e_isIn]
          refine m_wordEnd hB.pis (by omega) ?_
          unfold mw_setsWord
          have hle := weS_le (b := b) (bn := bn) (p := p) (by omega)
          have hlt := weS_lt hB.2.2.2 cl
          refine ⟨weS b bn p - p + 1, m_setsWord hT hle hbn (by omega) _ _ _ hB.pis i1 i2 (by omega) (by omega) (by omega) ?_⟩
          cases hw : wdS (sl u 0) b g p (weS b bn p) (weS b bn p - p + 1) p (piS b p w) with
          | mk e v =>
            rw [hw] at h
            cases e with
            | none =>
              obtain ⟨k1, k2⟩ := TI.word hT hB hI (by omega) cl hw
              simp (disch := omega) only [mOk, mErr, forall_eq, forall_eq', exists_eq_left, exists_eq_left', true_and, and_true, true_implies, false_implies, not_true_eq_false, not_false_eq_true, Prod.mk.injEq, Option.some.injEq, reduceCtorEq, and_self, implies_true, eq_self, Classical.not_not, and_false, false_and, ite_true, ite_false, reduceIte, bI_0, or_false, false_or, or_true, true_or, or_self, if_true, if_false, n_le_t, n_le_f, n_lt_t, n_lt_f, n_eq_t, n_eq_f, n_toInt, n_cl, n_vp, n_eqM, M_eqn, n_leM, n_ltM, M_len, M_ltn, M_add, n_sub, iM_toInt, x_lt_t, x_lt_f, x_le_t, x_le_f, lt_x_t, lt_x_f, le_x_t, le_x_f, x_eq_f, nI_add, pk_mul, bI_t, bI_f, Int32.toInt_toInt64, n_subI, x_add0, i_le_t, i_le_f, i_lt_t, i_lt_f, k_le_t, k_le_f, k_lt_t, k_lt_f, li_0, li_1, li_2, li_3, li_4, li_5, li_6, li_7, li_8, li_9, li_10, li_11, li_12, li_16, li_20, li_24, li_25, li_26, li_30, li_31, li_32, li_40, li_48, li_49, li_57, li_59, li_60, li_63, li_64, li_65, li_90, li_96, li_97, li_106, li_122, li_255, li_300, li_600, li_800, li_900, li_1850, li_2000, li_2010, li_2040, li_2801, li_3300, li_4161, li_9999, li_10163, li_16500, li_16800, li_17100, li_18350, li_18510, li_18540, li_65536, li_100000, li_999999, li_1000000, li_2147483647, im_1, im_8, ll_0, ll_1, ll_2, ll_3, ll_4, ll_6, ll_16, ll_20, ll_40, ll_63, ll_800, ll_9999, jm_same, jm_ob, jm_ok, jm_il, jm_li, jm_lsame, jm_lob, jm_lok, Nat.reduceAdd, Nat.reduceMul, Nat.zero_add, Nat.add_zero, Nat.mul_zero, Nat.zero_mul, e_mw_isSmall, e_mw_isDigit, e_mw_isDigit0, e_mw_isGreat, e_xs_isSmall, e_xs_isFigure, e_xs_isGreat, e_mw_isLetter, e_xs_isLetter, e_isBlank, e_xs_isBlank, e_isFrom, e_isIn]
              refine m_wordEnd k2 (by omega) ?_
              exact m_setsAll_L hT hbn f _ v k2 k1 hle (by omega) h
            | some e =>
              simp (disch := omega) only [mOk, forall_eq, forall_eq', exists_eq_left, exists_eq_left', true_and, and_true, true_implies, false_implies, not_true_eq_false, not_false_eq_true, Prod.mk.injEq, Option.some.injEq, reduceCtorEq, and_self, implies_true, eq_self, Classical.not_not, and_false, false_and, ite_true, ite_false, reduceIte, bI_0, or_false, false_or, or_true, true_or, or_self, if_true, if_false, n_le_t, n_le_f, n_lt_t, n_lt_f, n_eq_t, n_eq_f, n_toInt, n_cl, n_vp, n_eqM, M_eqn, n_leM, n_ltM, M_len, M_ltn, M_add, n_sub, iM_toInt, x_lt_t, x_lt_f, x_le_t, x_le_f, lt_x_t, lt_x_f, le_x_t, le_x_f, x_eq_f, nI_add, pk_mul, bI_t, bI_f, Int32.toInt_toInt64, n_subI, x_add0, i_le_t, i_le_f, i_lt_t, i_lt_f, k_le_t, k_le_f, k_lt_t, k_lt_f, li_0, li_1, li_2, li_3, li_4, li_5, li_6, li_7, li_8, li_9, li_10, li_11, li_12, li_16, li_20, li_24, li_25, li_26, li_30, li_31, li_32, li_40, li_48, li_49, li_57, li_59, li_60, li_63, li_64, li_65, li_90, li_96, li_97, li_106, li_122, li_255, li_300, li_600, li_800, li_900, li_1850, li_2000, li_2010, li_2040, li_2801, li_3300, li_4161, li_9999, li_10163, li_16500, li_16800, li_17100, li_18350, li_18510, li_18540, li_65536, li_100000, li_999999, li_1000000, li_2147483647, im_1, im_8, ll_0, ll_1, ll_2, ll_3, ll_4, ll_6, ll_16, ll_20, ll_40, ll_63, ll_800, ll_9999, jm_same, jm_ob, jm_ok, jm_il, jm_li, jm_lsame, jm_lob, jm_lok, Nat.reduceAdd, Nat.reduceMul, Nat.zero_add, Nat.add_zero, Nat.mul_zero, Nat.zero_mul, e_mw_isSmall, e_mw_isDigit, e_mw_isDigit0, e_mw_isGreat, e_xs_isSmall, e_xs_isFigure, e_xs_isGreat, e_mw_isLetter, e_xs_isLetter, e_isBlank, e_xs_isBlank, e_isFrom, e_isIn]
              exact h
        · by_cases cd : inR (b p) 48 57
          · rw [if_neg (fun z => z.2 cd), if_neg cl] at h
            simp (disch := omega) only [cb, cl, eq_true cd, forall_eq, forall_eq', exists_eq_left, exists_eq_left', true_and, and_true, true_implies, false_implies, not_true_eq_false, not_false_eq_true, Prod.mk.injEq, Option.some.injEq, reduceCtorEq, and_self, implies_true, eq_self, Classical.not_not, and_false, false_and, ite_true, ite_false, reduceIte, bI_0, or_false, false_or, or_true, true_or, or_self, if_true, if_false, n_le_t, n_le_f, n_lt_t, n_lt_f, n_eq_t, n_eq_f, n_toInt, n_cl, n_vp, n_eqM, M_eqn, n_leM, n_ltM, M_len, M_ltn, M_add, n_sub, iM_toInt, x_lt_t, x_lt_f, x_le_t, x_le_f, lt_x_t, lt_x_f, le_x_t, le_x_f, x_eq_f, nI_add, pk_mul, bI_t, bI_f, Int32.toInt_toInt64, n_subI, x_add0, i_le_t, i_le_f, i_lt_t, i_lt_f, k_le_t, k_le_f, k_lt_t, k_lt_f, li_0, li_1, li_2, li_3, li_4, li_5, li_6, li_7, li_8, li_9, li_10, li_11, li_12, li_16, li_20, li_24, li_25, li_26, li_30, li_31, li_32, li_40, li_48, li_49, li_57, li_59, li_60, li_63, li_64, li_65, li_90, li_96, li_97, li_106, li_122, li_255, li_300, li_600, li_800, li_900, li_1850, li_2000, li_2010, li_2040, li_2801, li_3300, li_4161, li_9999, li_10163, li_16500, li_16800, li_17100, li_18350, li_18510, li_18540, li_65536, li_100000, li_999999, li_1000000, li_2147483647, im_1, im_8, ll_0, ll_1, ll_2, ll_3, ll_4, ll_6, ll_16, ll_20, ll_40, ll_63, ll_800, ll_9999, jm_same, jm_ob, jm_ok, jm_il, jm_li, jm_lsame, jm_lob, jm_lok, Nat.reduceAdd, Nat.reduceMul, Nat.zero_add, Nat.add_zero, Nat.mul_zero, Nat.zero_mul, e_mw_isSmall, e_mw_isDigit, e_mw_isDigit0, e_mw_isGreat, e_xs_isSmall, e_xs_isFigure, e_xs_isGreat, e_mw_isLetter, e_xs_isLetter, e_isBlank, e_xs_isBlank, e_isFrom, e_isIn]
            refine m_newPiece hB hI (by omega) hbn ?_
            unfold mw_setsAll_B186
            simp (disch := omega) only [cl, MK_tab, forall_eq, forall_eq', exists_eq_left, exists_eq_left', true_and, and_true, true_implies, false_implies, not_true_eq_false, not_false_eq_true, Prod.mk.injEq, Option.some.injEq, reduceCtorEq, and_self, implies_true, eq_self, Classical.not_not, and_false, false_and, ite_true, ite_false, reduceIte, bI_0, or_false, false_or, or_true, true_or, or_self, if_true, if_false, n_le_t, n_le_f, n_lt_t, n_lt_f, n_eq_t, n_eq_f, n_toInt, n_cl, n_vp, n_eqM, M_eqn, n_leM, n_ltM, M_len, M_ltn, M_add, n_sub, iM_toInt, x_lt_t, x_lt_f, x_le_t, x_le_f, lt_x_t, lt_x_f, le_x_t, le_x_f, x_eq_f, nI_add, pk_mul, bI_t, bI_f, Int32.toInt_toInt64, n_subI, x_add0, i_le_t, i_le_f, i_lt_t, i_lt_f, k_le_t, k_le_f, k_lt_t, k_lt_f, li_0, li_1, li_2, li_3, li_4, li_5, li_6, li_7, li_8, li_9, li_10, li_11, li_12, li_16, li_20, li_24, li_25, li_26, li_30, li_31, li_32, li_40, li_48, li_49, li_57, li_59, li_60, li_63, li_64, li_65, li_90, li_96, li_97, li_106, li_122, li_255, li_300, li_600, li_800, li_900, li_1850, li_2000, li_2010, li_2040, li_2801, li_3300, li_4161, li_9999, li_10163, li_16500, li_16800, li_17100, li_18350, li_18510, li_18540, li_65536, li_100000, li_999999, li_1000000, li_2147483647, im_1, im_8, ll_0, ll_1, ll_2, ll_3, ll_4, ll_6, ll_16, ll_20, ll_40, ll_63, ll_800, ll_9999, jm_same, jm_ob, jm_ok, jm_il, jm_li, jm_lsame, jm_lob, jm_lok, Nat.reduceAdd, Nat.reduceMul, Nat.zero_add, Nat.add_zero, Nat.mul_zero, Nat.zero_mul, e_mw_isSmall, e_mw_isDigit, e_mw_isDigit0, e_mw_isGreat, e_xs_isSmall, e_xs_isFigure, e_xs_isGreat, e_mw_isLetter, e_xs_isLetter, e_isBlank, e_xs_isBlank, e_isFrom, e_isIn]
            have hT2 := hT
            obtain ⟨_, _, ⟨g2, g2l⟩, _⟩ := hT2
            by_cases cn : sl u 0 2 = nI 0
            · rw [if_pos cn] at h
              simp (disch := omega) only [cn, forall_eq, forall_eq', exists_eq_left, exists_eq_left', true_and, and_true, true_implies, false_implies, not_true_eq_false, not_false_eq_true, Prod.mk.injEq, Option.some.injEq, reduceCtorEq, and_self, implies_true, eq_self, Classical.not_not, and_false, false_and, ite_true, ite_false, reduceIte, bI_0, or_false, false_or, or_true, true_or, or_self, if_true, if_false, n_le_t, n_le_f, n_lt_t, n_lt_f, n_eq_t, n_eq_f, n_toInt, n_cl, n_vp, n_eqM, M_eqn, n_leM, n_ltM, M_len, M_ltn, M_add, n_sub, iM_toInt, x_lt_t, x_lt_f, x_le_t, x_le_f, lt_x_t, lt_x_f, le_x_t, le_x_f, x_eq_f, nI_add, pk_mul, bI_t, bI_f, Int32.toInt_toInt64, n_subI, x_add0, i_le_t, i_le_f, i_lt_t, i_lt_f, k_le_t, k_le_f, k_lt_t, k_lt_f, li_0, li_1, li_2, li_3, li_4, li_5, li_6, li_7, li_8, li_9, li_10, li_11, li_12, li_16, li_20, li_24, li_25, li_26, li_30, li_31, li_32, li_40, li_48, li_49, li_57, li_59, li_60, li_63, li_64, li_65, li_90, li_96, li_97, li_106, li_122, li_255, li_300, li_600, li_800, li_900, li_1850, li_2000, li_2010, li_2040, li_2801, li_3300, li_4161, li_9999, li_10163, li_16500, li_16800, li_17100, li_18350, li_18510, li_18540, li_65536, li_100000, li_999999, li_1000000, li_2147483647, im_1, im_8, ll_0, ll_1, ll_2, ll_3, ll_4, ll_6, ll_16, ll_20, ll_40, ll_63, ll_800, ll_9999, jm_same, jm_ob, jm_ok, jm_il, jm_li, jm_lsame, jm_lob, jm_lok, Nat.reduceAdd, Nat.reduceMul, Nat.zero_add, Nat.add_zero, Nat.mul_zero, Nat.zero_mul, e_mw_isSmall, e_mw_isDigit, e_mw_isDigit0, e_mw_isGreat, e_xs_isSmall, e_xs_isFigure, e_xs_isGreat, e_mw_isLetter, e_xs_isLetter, e_isBlank, e_xs_isBlank, e_isFrom, e_isIn]
              exact m_isBad h
            · rw [if_neg cn] at h
              simp (disch := omega) only [cn, forall_eq, forall_eq', exists_eq_left, exists_eq_left', true_and, and_true, true_implies, false_implies, not_true_eq_false, not_false_eq_true, Prod.mk.injEq, Option.some.injEq, reduceCtorEq, and_self, implies_true, eq_self, Classical.not_not, and_false, false_and, ite_true, ite_false, reduceIte, bI_0, or_false, false_or, or_true, true_or, or_self, if_true, if_false, n_le_t, n_le_f, n_lt_t, n_lt_f, n_eq_t, n_eq_f, n_toInt, n_cl, n_vp, n_eqM, M_eqn, n_leM, n_ltM, M_len, M_ltn, M_add, n_sub, iM_toInt, x_lt_t, x_lt_f, x_le_t, x_le_f, lt_x_t, lt_x_f, le_x_t, le_x_f, x_eq_f, nI_add, pk_mul, bI_t, bI_f, Int32.toInt_toInt64, n_subI, x_add0, i_le_t, i_le_f, i_lt_t, i_lt_f, k_le_t, k_le_f, k_lt_t, k_lt_f, li_0, li_1, li_2, li_3, li_4, li_5, li_6, li_7, li_8, li_9, li_10, li_11, li_12, li_16, li_20, li_24, li_25, li_26, li_30, li_31, li_32, li_40, li_48, li_49, li_57, li_59, li_60, li_63, li_64, li_65, li_90, li_96, li_97, li_106, li_122, li_255, li_300, li_600, li_800, li_900, li_1850, li_2000, li_2010, li_2040, li_2801, li_3300, li_4161, li_9999, li_10163, li_16500, li_16800, li_17100, li_18350, li_18510, li_18540, li_65536, li_100000, li_999999, li_1000000, li_2147483647, im_1, im_8, ll_0, ll_1, ll_2, ll_3, ll_4, ll_6, ll_16, ll_20, ll_40, ll_63, ll_800, ll_9999, jm_same, jm_ob, jm_ok, jm_il, jm_li, jm_lsame, jm_lob, jm_lok, Nat.reduceAdd, Nat.reduceMul, Nat.zero_add, Nat.add_zero, Nat.mul_zero, Nat.zero_mul, e_mw_isSmall, e_mw_isDigit, e_mw_isDigit0, e_mw_isGreat, e_xs_isSmall, e_xs_isFigure, e_xs_isGreat, e_mw_isLetter, e_xs_isLetter, e_isBlank, e_xs_isBlank, e_isFrom, e_isIn]
              refine m_sets i1.1 (by omega) ?_
              obtain ⟨s1, s2, s3, _⟩ := i1.set (v := sl u 0 2) (by0 := iM) (by omega) (by omega) g2 g2l (Or.inl rfl)
              refine ⟨bn - p + 1, ?_⟩
              refine m_digits hT (bn - p + 1) p (sS (sl u 0 2) iM (piS b p w)) hB.pis.sS s1 (by omega) (by omega) (by omega) (by omega) (fun e he => ?_) (fun he => ?_)
              · cases hd : dgS (sl u 0) b g (bn - p + 1) p (sS (sl u 0 2) iM (piS b p w)) with
                | mk e2 qv =>
                  cases qv with
                  | mk q v =>
                    rw [hd] at h he
                    simp only at he
                    subst he
                    exact h
              · cases hd : dgS (sl u 0) b g (bn - p + 1) p (sS (sl u 0 2) iM (piS b p w)) with
                | mk e2 qv =>
                  cases qv with
                  | mk q v =>
                    rw [hd] at h he
                    simp only at he
                    subst he
                    obtain ⟨k1, k2, k3, k4⟩ := TI.figure hT hB hI (by omega) cd hd
                    exact m_setsAll_L hT hbn f q v k2 k1 k4 (by omega) h
          · rw [if_pos ⟨cl, cd⟩] at h
            simp (disch := omega) only [cb, cl, cd, forall_eq, forall_eq', exists_eq_left, exists_eq_left', true_and, and_true, true_implies, false_implies, not_true_eq_false, not_false_eq_true, Prod.mk.injEq, Option.some.injEq, reduceCtorEq, and_self, implies_true, eq_self, Classical.not_not, and_false, false_and, ite_true, ite_false, reduceIte, bI_0, or_false, false_or, or_true, true_or, or_self, if_true, if_false, n_le_t, n_le_f, n_lt_t, n_lt_f, n_eq_t, n_eq_f, n_toInt, n_cl, n_vp, n_eqM, M_eqn, n_leM, n_ltM, M_len, M_ltn, M_add, n_sub, iM_toInt, x_lt_t, x_lt_f, x_le_t, x_le_f, lt_x_t, lt_x_f, le_x_t, le_x_f, x_eq_f, nI_add, pk_mul, bI_t, bI_f, Int32.toInt_toInt64, n_subI, x_add0, i_le_t, i_le_f, i_lt_t, i_lt_f, k_le_t, k_le_f, k_lt_t, k_lt_f, li_0, li_1, li_2, li_3, li_4, li_5, li_6, li_7, li_8, li_9, li_10, li_11, li_12, li_16, li_20, li_24, li_25, li_26, li_30, li_31, li_32, li_40, li_48, li_49, li_57, li_59, li_60, li_63, li_64, li_65, li_90, li_96, li_97, li_106, li_122, li_255, li_300, li_600, li_800, li_900, li_1850, li_2000, li_2010, li_2040, li_2801, li_3300, li_4161, li_9999, li_10163, li_16500, li_16800, li_17100, li_18350, li_18510, li_18540, li_65536, li_100000, li_999999, li_1000000, li_2147483647, im_1, im_8, ll_0, ll_1, ll_2, ll_3, ll_4, ll_6, ll_16, ll_20, ll_40, ll_63, ll_800, ll_9999, jm_same, jm_ob, jm_ok, jm_il, jm_li, jm_lsame, jm_lob, jm_lok, Nat.reduceAdd, Nat.reduceMul, Nat.zero_add, Nat.add_zero, Nat.mul_zero, Nat.zero_mul, e_mw_isSmall, e_mw_isDigit, e_mw_isDigit0, e_mw_isGreat, e_xs_isSmall, e_xs_isFigure, e_xs_isGreat, e_mw_isLetter, e_xs_isLetter, e_isBlank, e_xs_isBlank, e_isFrom, e_isIn]
            exact m_isBad h
end SME
