/-! PLAIN LAW: setsAll, takesSet, laysBytes of the reference; what is well set makes a writing -/
set_option linter.unusedVariables false
def bO (w : Nat → Int32) (p : Nat) : Int32 := if p < hN w 7 then w (300 + p) else nI 32
theorem bO_WB {w : Nat → Int32} (h7 : w 7 = nI (hN w 7)) (h : hN w 7 ≤ 300) : WB (bO w) (hN w 7) w := ⟨h7, h, fun p hp => by unfold bO; rw [if_pos hp], fun p hp => by unfold bO; rw [if_neg (by omega)]⟩
def goodB (c : Int32) : Prop := isB c ∨ isL c ∨ inR c 48 57
theorem dgS_in {h b : Nat → Int32} {g : Int32} : ∀ f p w k, p ≤ k → k < (dgS h b g f p w).2.1 → inR (b k) 48 57
  | 0, p, w, k, h1, h2 => by unfold dgS at h2; simp only at h2; omega
  | f + 1, p, w, k, h1, h2 => by
    unfold dgS at h2
    by_cases c : inR (b p) 48 57
    · rw [if_pos c] at h2
      cases ht : jsS h (fgL (b p)) g with
      | none => rw [ht] at h2; simp only at h2; omega
      | some r =>
        rw [ht] at h2
        simp only at h2
        rcases Nat.lt_or_ge p k with q | q
        · exact dgS_in f (p + 1) _ k (by omega) h2
        · rw [show k = p by omega]; exact c
    · rw [if_neg c] at h2; simp only at h2; omega
theorem saS_ok {h b : Nat → Int32} {g : Int32} {bn : Nat} (hT : WT h) : ∀ f p w, WB b bn w → TI h b p w → p ≤ bn → bn < p + f → (saS h b g bn f p w).1 = none → TI h b bn (saS h b g bn f p w).2 ∧ WB b bn (saS h b g bn f p w).2 ∧ ∀ k, p ≤ k → k < bn → goodB (b k)
  | 0, p, w, hB, hI, hp, hlf, he => by omega
  | f + 1, p, w, hB, hI, hp, hlf, he => by
    unfold saS at he ⊢
    by_cases c : bn ≤ p
    · rw [if_pos c] at he ⊢
      have : p = bn := by omega
      subst this
      exact ⟨hI, hB, fun k h1 h2 => by omega⟩
    · rw [if_neg c] at he ⊢
      by_cases cb : isB (b p)
      · rw [if_pos cb] at he ⊢
        obtain ⟨k1, k2, k3⟩ := saS_ok hT f (p + 1) w hB (hI.blank cb) (by omega) (by omega) he
        refine ⟨k1, k2, fun k h1 h2 => ?_⟩
        rcases Nat.lt_or_ge p k with q | q
        · exact k3 k (by omega) h2
        · rw [show k = p by omega]; exact Or.inl cb
      · rw [if_neg cb] at he ⊢
        by_cases cl : isL (b p)
        · rw [if_neg (fun z => z.1 cl), if_pos cl] at he ⊢
          have hle := weS_le (b := b) (bn := bn) (p := p) (by omega)
          have hlt := weS_lt hB.2.2.2 cl
          cases hw : wdS h b g p (weS b bn p) (weS b bn p - p + 1) p (piS b p w) with
          | mk e v =>
            rw [hw] at he
            cases e with
            | none =>
              obtain ⟨k1, k2⟩ := TI.word hT hB hI (by omega) cl hw
              obtain ⟨m1, m2, m3⟩ := saS_ok hT f (weS b bn p) v k2 k1 hle (by omega) he
              refine ⟨m1, m2, fun k h1 h2 => ?_⟩
              rcases Nat.lt_or_ge k (weS b bn p) with q | q
              · exact Or.inr (Or.inl (weS_in h1 q))
              · exact m3 k q h2
            | some e => simp at he
        · by_cases cd : inR (b p) 48 57
          · rw [if_neg (fun z => z.2 cd), if_neg cl] at he ⊢
            by_cases cn : h 2 = nI 0
            · rw [if_pos cn] at he; simp at he
            · rw [if_neg cn] at he ⊢
              cases hd : dgS h b g (bn - p + 1) p (sS (h 2) iM (piS b p w)) with
              | mk e2 qv =>
                cases qv with
                | mk q v =>
                  rw [hd] at he
                  cases e2 with
                  | some e => simp at he
                  | none =>
                    obtain ⟨k1, k2, k3, k4⟩ := TI.figure hT hB hI (by omega) cd hd
                    obtain ⟨m1, m2, m3⟩ := saS_ok hT f q v k2 k1 k4 (by omega) he
                    refine ⟨m1, m2, fun k h1 h2 => ?_⟩
                    rcases Nat.lt_or_ge k q with z | z
                    · exact Or.inr (Or.inr (dgS_in (bn - p + 1) p (sS (h 2) iM (piS b p w)) k h1 (by rw [hd]; exact z)))
                    · exact m3 k z h2
          · rw [if_pos ⟨cl, cd⟩] at he; simp at he
theorem zrS_ne {w : Nat → Int32} {j : Nat} (h1 : j < 8 ∨ 12 ≤ j) (h2 : j < 2010 ∨ 2034 ≤ j) : zrS w j = w j := by
  unfold zrS
  have := it_inv (f := zrF) (a := up (up (up (up w 8 (nI 0)) 9 (nI 0)) 10 (nI 0)) 11 (nI 0)) (fun k v => v j = w j) (by rw [up_n (by omega), up_n (by omega), up_n (by omega), up_n (by omega)]) 24 (fun k v hk hv => by unfold zrF; rw [up_n (by omega), hv])
  exact this
theorem zrS_0 {w : Nat → Int32} : zrS w 8 = nI 0 ∧ zrS w 9 = nI 0 ∧ zrS w 10 = nI 0 ∧ zrS w 11 = nI 0 := by
  unfold zrS
  exact it_inv (f := zrF) (a := up (up (up (up w 8 (nI 0)) 9 (nI 0)) 10 (nI 0)) 11 (nI 0)) (fun k v => v 8 = nI 0 ∧ v 9 = nI 0 ∧ v 10 = nI 0 ∧ v 11 = nI 0) ⟨by rw [up_n (by omega), up_n (by omega), up_n (by omega), up_s], by rw [up_n (by omega), up_n (by omega), up_s], by rw [up_n (by omega), up_s], by rw [up_s]⟩ 24 (fun k v hk hv => by
    obtain ⟨a, b, c, d⟩ := hv
    unfold zrF
    exact ⟨by rw [up_n (by omega), a], by rw [up_n (by omega), b], by rw [up_n (by omega), c], by rw [up_n (by omega), d]⟩)
theorem zrS_TI {h b w : Nat → Int32} : TI h b 0 (zrS w) := by
  obtain ⟨a, b, c, d⟩ := zrS_0 (w := w)
  have e8 : hN (zrS w) 8 = 0 := hN_of a (by omega)
  have e9 : hN (zrS w) 9 = 0 := hN_of b (by omega)
  have e11 : hN (zrS w) 11 = 0 := hN_of d (by omega)
  refine ⟨⟨by rw [a, e8], by rw [b, e9], by rw [d, e11], by omega, fun k hk => by omega, fun k hk => by omega, fun k hk => by omega, fun k hk => by omega⟩, fun z => by omega, by omega, by omega, fun z => by omega, fun z => by omega, fun _ => ⟨e8, e9⟩⟩
theorem setS_ok {h b : Nat → Int32} {g : Int32} {bn : Nat} {w : Nat → Int32} (hT : WT h) (hB : WB b bn w) (he : (setS h b g bn w).1 = none) : TI h b bn (setS h b g bn w).2 ∧ WB b bn (setS h b g bn w).2 ∧ ∀ k, k < bn → goodB (b k) := by
  obtain ⟨k1, k2, k3⟩ := saS_ok (g := g) hT (bn + 1) 0 (zrS w) hB.zrs zrS_TI (by omega) (by omega) he
  exact ⟨k1, k2, fun k hk => k3 k (by omega) hk⟩
theorem m_setsAll {b : Nat → Int32} {bn : Nat} {u : MS} {w : Nat → Int32} {g : Int32} {P : Int32 → MS → Prop} (hT : WT (sl u 0)) (hB : WB b bn w) (h : P (mOk (setS (sl u 0) b g bn w).1) (MK (mErr u (setS (sl u 0) b g bn w).1) (setS (sl u 0) b g bn w).2)) : mw_setsAll g (MK u w) P := by
  unfold mw_setsAll
  simp (disch := omega) only [MK_s8, MK_s9, MK_s10, MK_s11, forall_eq, forall_eq', exists_eq_left, exists_eq_left', true_and, and_true, true_implies, false_implies, not_true_eq_false, not_false_eq_true, Prod.mk.injEq, Option.some.injEq, reduceCtorEq, and_self, implies_true, eq_self, Classical.not_not, and_false, false_and, ite_true, ite_false, reduceIte, bI_0, or_false, false_or, or_true, true_or, or_self, if_true, if_false, n_le_t, n_le_f, n_lt_t, n_lt_f, n_eq_t, n_eq_f, n_toInt, n_cl, n_vp, n_eqM, M_eqn, n_leM, n_ltM, M_len, M_ltn, M_add, n_sub, iM_toInt, x_lt_t, x_lt_f, x_le_t, x_le_f, lt_x_t, lt_x_f, le_x_t, le_x_f, x_eq_f, nI_add, pk_mul, bI_t, bI_f, Int32.toInt_toInt64, n_subI, x_add0, i_le_t, i_le_f, i_lt_t, i_lt_f, k_le_t, k_le_f, k_lt_t, k_lt_f, li_0, li_1, li_2, li_3, li_4, li_5, li_6, li_7, li_8, li_9, li_10, li_11, li_12, li_16, li_20, li_24, li_25, li_26, li_30, li_31, li_32, li_40, li_48, li_49, li_57, li_59, li_60, li_63, li_64, li_65, li_90, li_96, li_97, li_106, li_122, li_255, li_300, li_600, li_800, li_900, li_1850, li_2000, li_2010, li_2040, li_2801, li_3300, li_4161, li_9999, li_10163, li_16500, li_16800, li_17100, li_18350, li_18510, li_18540, li_65536, li_100000, li_999999, li_1000000, li_2147483647, im_1, im_8, ll_0, ll_1, ll_2, ll_3, ll_4, ll_6, ll_16, ll_20, ll_40, ll_63, ll_800, ll_9999, jm_same, jm_ob, jm_ok, jm_il, jm_li, jm_lsame, jm_lob, jm_lok, Nat.reduceAdd, Nat.reduceMul, Nat.zero_add, Nat.add_zero, Nat.mul_zero, Nat.zero_mul, e_mw_isSmall, e_mw_isDigit, e_mw_isDigit0, e_mw_isGreat, e_xs_isSmall, e_xs_isFigure, e_xs_isGreat, e_mw_isLetter, e_xs_isLetter, e_isBlank, e_xs_isBlank, e_isFrom, e_isIn]
  refine lp_st (fun n k v => mw_setsAll_L38 P g n (nI k) (MK u v)) (fun k v => v = it zrF (up (up (up (up w 8 (nI 0)) 9 (nI 0)) 10 (nI 0)) 11 (nI 0)) k) 24 0 _ (Nat.zero_le _) rfl (fun n v hI => ?_) (fun n k v hk hI ih => ?_)
  · unfold mw_setsAll_L38 mw_setsAll_L38_S
    simp (disch := omega) only [forall_eq, forall_eq', exists_eq_left, exists_eq_left', true_and, and_true, true_implies, false_implies, not_true_eq_false, not_false_eq_true, Prod.mk.injEq, Option.some.injEq, reduceCtorEq, and_self, implies_true, eq_self, Classical.not_not, and_false, false_and, ite_true, ite_false, reduceIte, bI_0, or_false, false_or, or_true, true_or, or_self, if_true, if_false, n_le_t, n_le_f, n_lt_t, n_lt_f, n_eq_t, n_eq_f, n_toInt, n_cl, n_vp, n_eqM, M_eqn, n_leM, n_ltM, M_len, M_ltn, M_add, n_sub, iM_toInt, x_lt_t, x_lt_f, x_le_t, x_le_f, lt_x_t, lt_x_f, le_x_t, le_x_f, x_eq_f, nI_add, pk_mul, bI_t, bI_f, Int32.toInt_toInt64, n_subI, x_add0, i_le_t, i_le_f, i_lt_t, i_lt_f, k_le_t, k_le_f, k_lt_t, k_lt_f, li_0, li_1, li_2, li_3, li_4, li_5, li_6, li_7, li_8, li_9, li_10, li_11, li_12, li_16, li_20, li_24, li_25, li_26, li_30, li_31, li_32, li_40, li_48, li_49, li_57, li_59, li_60, li_63, li_64, li_65, li_90, li_96, li_97, li_106, li_122, li_255, li_300, li_600, li_800, li_900, li_1850, li_2000, li_2010, li_2040, li_2801, li_3300, li_4161, li_9999, li_10163, li_16500, li_16800, li_17100, li_18350, li_18510, li_18540, li_65536, li_100000, li_999999, li_1000000, li_2147483647, im_1, im_8, ll_0, ll_1, ll_2, ll_3, ll_4, ll_6, ll_16, ll_20, ll_40, ll_63, ll_800, ll_9999, jm_same, jm_ob, jm_ok, jm_il, jm_li, jm_lsame, jm_lob, jm_lok, Nat.reduceAdd, Nat.reduceMul, Nat.zero_add, Nat.add_zero, Nat.mul_zero, Nat.zero_mul, e_mw_isSmall, e_mw_isDigit, e_mw_isDigit0, e_mw_isGreat, e_xs_isSmall, e_xs_isFigure, e_xs_isGreat, e_mw_isLetter, e_xs_isLetter, e_isBlank, e_xs_isBlank, e_isFrom, e_isIn]
    rw [hI]
    exact ⟨bn + 1, m_setsAll_L hT hB.2.1 (bn + 1) 0 (zrS w) hB.zrs zrS_TI (by omega) (by omega) h⟩
  · unfold mw_setsAll_L38 mw_setsAll_L38_S
    simp (disch := omega) only [MK_s2010, forall_eq, forall_eq', exists_eq_left, exists_eq_left', true_and, and_true, true_implies, false_implies, not_true_eq_false, not_false_eq_true, Prod.mk.injEq, Option.some.injEq, reduceCtorEq, and_self, implies_true, eq_self, Classical.not_not, and_false, false_and, ite_true, ite_false, reduceIte, bI_0, or_false, false_or, or_true, true_or, or_self, if_true, if_false, n_le_t, n_le_f, n_lt_t, n_lt_f, n_eq_t, n_eq_f, n_toInt, n_cl, n_vp, n_eqM, M_eqn, n_leM, n_ltM, M_len, M_ltn, M_add, n_sub, iM_toInt, x_lt_t, x_lt_f, x_le_t, x_le_f, lt_x_t, lt_x_f, le_x_t, le_x_f, x_eq_f, nI_add, pk_mul, bI_t, bI_f, Int32.toInt_toInt64, n_subI, x_add0, i_le_t, i_le_f, i_lt_t, i_lt_f, k_le_t, k_le_f, k_lt_t, k_lt_f, li_0, li_1, li_2, li_3, li_4, li_5, li_6, li_7, li_8, li_9, li_10, li_11, li_12, li_16, li_20, li_24, li_25, li_26, li_30, li_31, li_32, li_40, li_48, li_49, li_57, li_59, li_60, li_63, li_64, li_65, li_90, li_96, li_97, li_106, li_122, li_255, li_300, li_600, li_800, li_900, li_1850, li_2000, li_2010, li_2040, li_2801, li_3300, li_4161, li_9999, li_10163, li_16500, li_16800, li_17100, li_18350, li_18510, li_18540, li_65536, li_100000, li_999999, li_1000000, li_2147483647, im_1, im_8, ll_0, ll_1, ll_2, ll_3, ll_4, ll_6, ll_16, ll_20, ll_40, ll_63, ll_800, ll_9999, jm_same, jm_ob, jm_ok, jm_il, jm_li, jm_lsame, jm_lob, jm_lok, Nat.reduceAdd, Nat.reduceMul, Nat.zero_add, Nat.add_zero, Nat.mul_zero, Nat.zero_mul, e_mw_isSmall, e_mw_isDigit, e_mw_isDigit0, e_mw_isGreat, e_xs_isSmall, e_xs_isFigure, e_xs_isGreat, e_mw_isLetter, e_xs_isLetter, e_isBlank, e_xs_isBlank, e_isFrom, e_isIn]
    exact ih _ (by rw [hI]; rfl)
/-- a slot whose writing is another one's -/
def tkW (h w : Nat → Int32) : Nat → Int32 := fun k => if (7 ≤ k ∧ k < 12) ∨ (300 ≤ k ∧ k < 3300) then w k else h k
theorem tkW_w {h w : Nat → Int32} {k : Nat} (hk : (7 ≤ k ∧ k < 12) ∨ (300 ≤ k ∧ k < 3300)) : tkW h w k = w k := by unfold tkW; rw [if_pos hk]
theorem tkW_h {h w : Nat → Int32} {k : Nat} (hk : k < 7 ∨ (12 ≤ k ∧ k < 300)) : tkW h w k = h k := by unfold tkW; rw [if_neg (by omega)]
theorem tkW_hw {h w : Nat → Int32} {k : Nat} (hk : (7 ≤ k ∧ k < 12) ∨ (300 ≤ k ∧ k < 3300)) : hN (tkW h w) k = hN w k := congrArg Int32.toNatClampNeg (tkW_w hk)
theorem tkW_hh {h w : Nat → Int32} {k : Nat} (hk : k < 7 ∨ (12 ≤ k ∧ k < 300)) : hN (tkW h w) k = hN h k := congrArg Int32.toNatClampNeg (tkW_h hk)
theorem WT.cong {h v : Nat → Int32} (hT : WT h) (he : ∀ k, k < 6 ∨ (12 ≤ k ∧ k < 300) → v k = h k) : WT v := by
  have hh : ∀ k, k < 6 ∨ (12 ≤ k ∧ k < 300) → hN v k = hN h k := fun k hk => congrArg Int32.toNatClampNeg (he k hk)
  obtain ⟨⟨g0, g0l⟩, ⟨g1, g1l⟩, ⟨g2, g2l⟩, ⟨g3, g3l⟩, ⟨g4, g4a, g4b⟩, ⟨g5, g5a, g5b⟩, gr⟩ := hT
  unfold WT
  rw [hh 0 (by omega), hh 1 (by omega), hh 2 (by omega), hh 3 (by omega), hh 4 (by omega), hh 5 (by omega), he 0 (by omega), he 1 (by omega), he 2 (by omega), he 3 (by omega), he 4 (by omega), he 5 (by omega)]
  refine ⟨⟨g0, g0l⟩, ⟨g1, g1l⟩, ⟨g2, g2l⟩, ⟨g3, g3l⟩, ⟨g4, g4a, g4b⟩, ⟨g5, g5a, g5b⟩, fun r hr => ?_⟩
  obtain ⟨⟨e1, l1, l6⟩, el, ⟨e7, c1, c3⟩, ec, ⟨e11, d4⟩⟩ := gr r hr
  rw [hh (12 + 12 * r) (by omega), hh (12 + 12 * r + 7) (by omega), hh (12 + 12 * r + 11) (by omega), he (12 + 12 * r) (by omega), he (12 + 12 * r + 7) (by omega), he (12 + 12 * r + 11) (by omega)]
  exact ⟨⟨e1, l1, l6⟩, fun k hk => by rw [hh _ (by omega), he _ (by omega)]; exact el k hk, ⟨e7, c1, c3⟩, fun k hk => by rw [hh _ (by omega), he _ (by omega)]; exact ec k hk, ⟨e11, d4⟩⟩
theorem goodB_lt {c : Int32} (h : goodB c) : c = nI c.toNatClampNeg ∧ c.toNatClampNeg < 128 := by
  have h1 : 0 ≤ c.toInt ∧ c.toInt < 128 := by
    rcases h with h | h | h
    · rcases h with h | h
      · rw [h, n_toInt (by omega)]; omega
      · rw [h, n_toInt (by omega)]; omega
    · unfold isL inR at h; omega
    · unfold inR at h; omega
  have e : (c.toNatClampNeg : Int) = c.toInt := by
    show ((c.toInt.toNat : Nat) : Int) = c.toInt
    omega
  refine ⟨?_, by omega⟩
  rw [← Int32.toInt_inj, n_toInt (by omega), e]
theorem WWs.of {h b : Nat → Int32} {g : Int32} {bn : Nat} {w : Nat → Int32} (hT : WT h) (hB : WB b bn w) (he : (setS h b g bn w).1 = none) : WT (tkW h (setS h b g bn w).2) ∧ WWs (tkW h (setS h b g bn w).2) := by
  obtain ⟨k1, k2, k3⟩ := setS_ok hT hB he
  generalize (setS h b g bn w).2 = v at k1 k2
  obtain ⟨t1, t2, t3, t4, _⟩ := k1
  obtain ⟨s1, s2, s3, s4, s5, s6, s7, s8⟩ := t1
  obtain ⟨b1, b2, b3, b4⟩ := k2
  have e7 : hN v 7 = bn := hN_of b1 (by omega)
  refine ⟨hT.cong (fun k hk => tkW_h (by omega)), ?_⟩
  unfold WWs
  rw [tkW_hw (k := 7) (by omega), tkW_hw (k := 8) (by omega), tkW_hw (k := 9) (by omega), tkW_hw (k := 11) (by omega), tkW_w (k := 7) (by omega), tkW_w (k := 8) (by omega), tkW_w (k := 9) (by omega), tkW_w (k := 11) (by omega), tkW_hh (k := 0) (by omega), e7]
  refine ⟨⟨b1, b2⟩, fun k hk => ?_, ⟨s1, by omega⟩, ⟨s2, by omega⟩, ⟨s3, s4⟩, fun k hk => ?_, fun k hk => ?_, fun k hk => ?_, fun k hk => ?_⟩
  · rw [tkW_hw (by omega), tkW_w (by omega)]
    have := goodB_lt (k3 k hk)
    rw [← b3 k hk] at this
    exact this
  · rw [tkW_hw (by omega), tkW_w (by omega)]; exact s5 k hk
  · rw [tkW_hw (by omega), tkW_w (by omega)]; exact s6 k hk
  · rw [tkW_hw (by omega), tkW_w (by omega)]
    obtain ⟨z1, z2⟩ := s7 k hk
    refine ⟨z1, ?_⟩
    have key : ∀ d, k + d = hN v 9 - 1 → hN v (1850 + k) + d ≤ hN v (1850 + (hN v 9 - 1)) := by
      intro d
      induction d generalizing k with
      | zero => intro hd; rw [show hN v 9 - 1 = k by omega]; omega
      | succ d ih =>
        intro hd
        have h1 := s8 k (by omega)
        have h2 := ih (k + 1) (by omega) (by obtain ⟨z, _⟩ := s7 (k + 1) (by omega); exact z) (by obtain ⟨_, z⟩ := s7 (k + 1) (by omega); exact z) (by omega)
        omega
    have := key (hN v 9 - 1 - k) (by omega)
    have := t2 (by omega)
    omega
  · rw [tkW_hw (by omega), tkW_hw (by omega)]; exact s8 k hk
