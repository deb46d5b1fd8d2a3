/-! PLAIN LAW: answers 31: the fewest cells (the component) -/
set_option linter.unusedVariables false
def ovN (m : Nat) : Option Nat → Nat
  | none => m
  | some c => c
theorem ovN_min {m c : Nat} (best : Option Nat) (hc : c ≤ m) : min (ovN m best) c = ovN m (loM best c) := by
  cases best with
  | none => exact Nat.min_eq_right hc
  | some d => rfl
theorem loG_le {h b : Nat → Int32} {g : Int32} {first last p B : Nat} {A : Nat → Option Nat} (hT : WT h) (hA : ∀ q c, A q = some c → c ≤ B) : ∀ n, n ≤ hN h 0 → ∀ x, loG h b g first last A p n = some x → x ≤ B + 4 := by
  intro n hn
  exact it_inv (f := loF h b g first last A p) (a := none) (fun _ best => ∀ x, best = some x → x ≤ B + 4) (fun x hx => by simp at hx) n (fun r best hr hb x hx => by
    by_cases co : ¬ outS g r ∧ stS h b r p first last
    · cases ea : A (p + hN h (12 + 12 * r)) with
      | none => rw [loF_n co ea] at hx; exact hb x hx
      | some d =>
        rw [loF_s co ea] at hx
        have := hA _ _ ea
        obtain ⟨_, _, ⟨_, c1, c3⟩, _, _⟩ := hT.2.2.2.2.2.2 r (by omega)
        have := gt1_le (c := b p)
        exact loM_le hb (by omega) hx
    · rw [loF_o co] at hx; exact hb x hx)
section XBM
variable {a : Nat → Nat} {K : XK} {ow : Nat → Nat} {u v : XS} {s t : Nat} {as : Nat → Nat} {h b w : Nat → Int32} {bb bn : Nat} {g : Int32}
set_option maxHeartbeats 4000000 in
/-- all rules at a place of a word -/
theorem x_few3 {first last p : Nat} {A : Nat → Option Nat} {G : Int32 → XS → Prop} {P : Int32 → XS → Prop} (hX : xSt a K ow v s t as h bb b bn g) (hl : last ≤ bn) (hf : first ≤ 300) (hp : p < last)
    (hA : ∀ q, p < q → q ≤ last → xi v (as 20) q = nI (ovN 2147483647 (A q))) (hA2 : ∀ q c, A q = some c → c ≤ 1200)
    (hG : G (acI p) (xsi v (as 20) p (nI (ovN 2147483647 (loG h b g first last A p (hN h 0)))))) : ∃ n, xw6_fewest_2_L23 G P K s (nI first) (nI last) (nI p) n (nI 2147483647) (nI 0) v := by
  obtain ⟨hR, e0, hTb, hT, ⟨e2, ⟨nb, kb, hnb, hnb2⟩, ob, ob2⟩, e3, hbn, hb, hb2, e1, _⟩ := id hX
  obtain ⟨ks, os, _, _, _, _, _, _, _, _, _, _, _, p20, k20, o20⟩ := id hR
  obtain ⟨ra, ktb, otb, pra, kra, ora, f1, f2, f3, f4, f5, f6, hru⟩ := id hTb
  have hT2 := hT
  obtain ⟨⟨g0, g0l⟩, _, _, _, _, _, gr⟩ := hT2
  have hbp := hb p (by omega)
  refine lp_up (fun n k => xw6_fewest_2_L23 G P K s (nI first) (nI last) (nI p) n (nI (ovN 2147483647 (loG h b g first last A p k))) (nI k) v) (hN h 0) 0 (Nat.zero_le _) (fun n => ?_) (fun n k hk ih => ?_)
  · unfold xw6_fewest_2_L23 xw6_fewest_2_L23_S
    simp (disch := omega) only [ks, e0, ktb, f1, g0, p20, k20, acI_m, forall_eq, forall_eq', exists_eq_left, exists_eq_left', true_and, and_true, true_implies, false_implies, not_true_eq_false, not_false_eq_true, Prod.mk.injEq, Option.some.injEq, reduceCtorEq, and_self, implies_true, eq_self, Classical.not_not, and_false, false_and, ite_true, ite_false, reduceIte, bI_0, or_false, false_or, or_true, true_or, or_self, if_true, if_false, n_le_t, n_le_f, n_lt_t, n_lt_f, n_eq_t, n_eq_f, n_toInt, n_cl, n_vp, n_eqM, M_eqn, n_leM, n_ltM, M_len, M_ltn, M_add, n_sub, iM_toInt, x_lt_t, x_lt_f, x_le_t, x_le_f, lt_x_t, lt_x_f, le_x_t, le_x_f, x_eq_f, nI_add, pk_mul, bI_t, bI_f, Int32.toInt_toInt64, n_subI, x_add0, i_le_t, i_le_f, i_lt_t, i_lt_f, k_le_t, k_le_f, k_lt_t, k_lt_f, li_0, li_1, li_2, li_3, li_4, li_5, li_6, li_7, li_8, li_9, li_10, li_11, li_12, li_16, li_20, li_24, li_25, li_26, li_30, li_31, li_32, li_40, li_48, li_49, li_57, li_59, li_60, li_63, li_64, li_65, li_90, li_96, li_97, li_106, li_122, li_255, li_300, li_600, li_800, li_900, li_1850, li_2000, li_2010, li_2040, li_2801, li_3300, li_4161, li_9999, li_10163, li_16500, li_16800, li_17100, li_18350, li_18510, li_18540, li_65536, li_100000, li_999999, li_1000000, li_2147483647, im_1, im_8, ll_0, ll_1, ll_2, ll_3, ll_4, ll_6, ll_16, ll_20, ll_40, ll_63, ll_800, ll_9999, jm_same, jm_ob, jm_ok, jm_il, jm_li, jm_lsame, jm_lob, jm_lok, Nat.reduceAdd, Nat.reduceMul, Nat.zero_add, Nat.add_zero, Nat.mul_zero, Nat.zero_mul, e_mw_isSmall, e_mw_isDigit, e_mw_isDigit0, e_mw_isGreat, e_xs_isSmall, e_xs_isFigure, e_xs_isGreat, e_mw_isLetter, e_xs_isLetter, e_isBlank, e_xs_isBlank, e_isFrom, e_isIn]
    exact hG
  · unfold xw6_fewest_2_L23 xw6_fewest_2_L23_S
    have hs : loG h b g first last A p (k + 1) = loF h b g first last A p k (loG h b g first last A p k) := rfl
    rw [hs] at ih
    have hbst := loG_le (b := b) (g := g) (first := first) (last := last) (p := p) hT hA2 k (by omega)
    generalize loG h b g first last A p k = best at ih hbst ⊢
    obtain ⟨⟨e4, l1, l6⟩, el, ⟨e7, c1, c3⟩, ec, ⟨e11, d4⟩⟩ := gr k hk
    obtain ⟨o, ho, la, ca, ko, oo, pl, kl, ol, pc, kc, oc, vl, vc⟩ := hru k hk
    have hxr := eq_true (xRule_of ko d4)
    have hbs : ovN 2147483647 best ≤ 2147483647 := by
      cases best with
      | none => exact Nat.le_refl _
      | some x => have := hbst x rfl; show x ≤ _; omega
    simp (disch := omega) only [ks, e0, ktb, f1, g0, forall_eq, forall_eq', exists_eq_left, exists_eq_left', true_and, and_true, true_implies, false_implies, not_true_eq_false, not_false_eq_true, Prod.mk.injEq, Option.some.injEq, reduceCtorEq, and_self, implies_true, eq_self, Classical.not_not, and_false, false_and, ite_true, ite_false, reduceIte, bI_0, or_false, false_or, or_true, true_or, or_self, if_true, if_false, n_le_t, n_le_f, n_lt_t, n_lt_f, n_eq_t, n_eq_f, n_toInt, n_cl, n_vp, n_eqM, M_eqn, n_leM, n_ltM, M_len, M_ltn, M_add, n_sub, iM_toInt, x_lt_t, x_lt_f, x_le_t, x_le_f, lt_x_t, lt_x_f, le_x_t, le_x_f, x_eq_f, nI_add, pk_mul, bI_t, bI_f, Int32.toInt_toInt64, n_subI, x_add0, i_le_t, i_le_f, i_lt_t, i_lt_f, k_le_t, k_le_f, k_lt_t, k_lt_f, li_0, li_1, li_2, li_3, li_4, li_5, li_6, li_7, li_8, li_9, li_10, li_11, li_12, li_16, li_20, li_24, li_25, li_26, li_30, li_31, li_32, li_40, li_48, li_49, li_57, li_59, li_60, li_63, li_64, li_65, li_90, li_96, li_97, li_106, li_122, li_255, li_300, li_600, li_800, li_900, li_1850, li_2000, li_2010, li_2040, li_2801, li_3300, li_4161, li_9999, li_10163, li_16500, li_16800, li_17100, li_18350, li_18510, li_18540, li_65536, li_100000, li_999999, li_1000000, li_2147483647, im_1, im_8, ll_0, ll_1, ll_2, ll_3, ll_4, ll_6, ll_16, ll_20, ll_40, ll_63, ll_800, ll_9999, jm_same, jm_ob, jm_ok, jm_il, jm_li, jm_lsame, jm_lob, jm_lok, Nat.reduceAdd, Nat.reduceMul, Nat.zero_add, Nat.add_zero, Nat.mul_zero, Nat.zero_mul, e_mw_isSmall, e_mw_isDigit, e_mw_isDigit0, e_mw_isGreat, e_xs_isSmall, e_xs_isFigure, e_xs_isGreat, e_mw_isLetter, e_xs_isLetter, e_isBlank, e_xs_isBlank, e_isFrom, e_isIn]
    refine x_stands hX hk hl (by omega) hf ?_
    by_cases co : ¬ outS g k ∧ stS h b k p first last
    · rw [cI_t co]
      have hpl : p + hN h (12 + 12 * k) ≤ last := co.2.1
      have hq := hA (p + hN h (12 + 12 * k)) (by omega) hpl
      cases ea : A (p + hN h (12 + 12 * k)) with
      | none =>
        rw [loF_n co ea] at ih
        rw [ea] at hq
        have hq : xi v (as 20) (p + hN h (12 + 12 * k)) = nI 2147483647 := hq
        simp (disch := omega) only [ks, e0, ktb, pra, kra, ho, hxr, pl, kl, p20, k20, hq, forall_eq, forall_eq', exists_eq_left, exists_eq_left', true_and, and_true, true_implies, false_implies, not_true_eq_false, not_false_eq_true, Prod.mk.injEq, Option.some.injEq, reduceCtorEq, and_self, implies_true, eq_self, Classical.not_not, and_false, false_and, ite_true, ite_false, reduceIte, bI_0, or_false, false_or, or_true, true_or, or_self, if_true, if_false, n_le_t, n_le_f, n_lt_t, n_lt_f, n_eq_t, n_eq_f, n_toInt, n_cl, n_vp, n_eqM, M_eqn, n_leM, n_ltM, M_len, M_ltn, M_add, n_sub, iM_toInt, x_lt_t, x_lt_f, x_le_t, x_le_f, lt_x_t, lt_x_f, le_x_t, le_x_f, x_eq_f, nI_add, pk_mul, bI_t, bI_f, Int32.toInt_toInt64, n_subI, x_add0, i_le_t, i_le_f, i_lt_t, i_lt_f, k_le_t, k_le_f, k_lt_t, k_lt_f, li_0, li_1, li_2, li_3, li_4, li_5, li_6, li_7, li_8, li_9, li_10, li_11, li_12, li_16, li_20, li_24, li_25, li_26, li_30, li_31, li_32, li_40, li_48, li_49, li_57, li_59, li_60, li_63, li_64, li_65, li_90, li_96, li_97, li_106, li_122, li_255, li_300, li_600, li_800, li_900, li_1850, li_2000, li_2010, li_2040, li_2801, li_3300, li_4161, li_9999, li_10163, li_16500, li_16800, li_17100, li_18350, li_18510, li_18540, li_65536, li_100000, li_999999, li_1000000, li_2147483647, im_1, im_8, ll_0, ll_1, ll_2, ll_3, ll_4, ll_6, ll_16, ll_20, ll_40, ll_63, ll_800, ll_9999, jm_same, jm_ob, jm_ok, jm_il, jm_li, jm_lsame, jm_lob, jm_lok, Nat.reduceAdd, Nat.reduceMul, Nat.zero_add, Nat.add_zero, Nat.mul_zero, Nat.zero_mul, e_mw_isSmall, e_mw_isDigit, e_mw_isDigit0, e_mw_isGreat, e_xs_isSmall, e_xs_isFigure, e_xs_isGreat, e_mw_isLetter, e_xs_isLetter, e_isBlank, e_xs_isBlank, e_isFrom, e_isIn]
        exact ih
      | some d =>
        rw [loF_s co ea] at ih
        rw [ea] at hq
        have hq : xi v (as 20) (p + hN h (12 + 12 * k)) = nI d := hq
        have hd := hA2 _ _ ea
        by_cases cg : inR (b p) 65 90
        · rw [gt1_t cg, ← ovN_min best (by omega)] at ih
          simp (disch := omega) only [ks, e0, ktb, pra, kra, ho, hxr, pl, kl, pc, kc, p20, k20, hq, e2, kb, hbp, e_xs_isGreat, e_min, forall_eq, forall_eq', exists_eq_left, exists_eq_left', true_and, and_true, true_implies, false_implies, not_true_eq_false, not_false_eq_true, Prod.mk.injEq, Option.some.injEq, reduceCtorEq, and_self, implies_true, eq_self, Classical.not_not, and_false, false_and, ite_true, ite_false, reduceIte, bI_0, or_false, false_or, or_true, true_or, or_self, if_true, if_false, n_le_t, n_le_f, n_lt_t, n_lt_f, n_eq_t, n_eq_f, n_toInt, n_cl, n_vp, n_eqM, M_eqn, n_leM, n_ltM, M_len, M_ltn, M_add, n_sub, iM_toInt, x_lt_t, x_lt_f, x_le_t, x_le_f, lt_x_t, lt_x_f, le_x_t, le_x_f, x_eq_f, nI_add, pk_mul, bI_t, bI_f, Int32.toInt_toInt64, n_subI, x_add0, i_le_t, i_le_f, i_lt_t, i_lt_f, k_le_t, k_le_f, k_lt_t, k_lt_f, li_0, li_1, li_2, li_3, li_4, li_5, li_6, li_7, li_8, li_9, li_10, li_11, li_12, li_16, li_20, li_24, li_25, li_26, li_30, li_31, li_32, li_40, li_48, li_49, li_57, li_59, li_60, li_63, li_64, li_65, li_90, li_96, li_97, li_106, li_122, li_255, li_300, li_600, li_800, li_900, li_1850, li_2000, li_2010, li_2040, li_2801, li_3300, li_4161, li_9999, li_10163, li_16500, li_16800, li_17100, li_18350, li_18510, li_18540, li_65536, li_100000, li_999999, li_1000000, li_2147483647, im_1, im_8, ll_0, ll_1, ll_2, ll_3, ll_4, ll_6, ll_16, ll_20, ll_40, ll_63, ll_800, ll_9999, jm_same, jm_ob, jm_ok, jm_il, jm_li, jm_lsame, jm_lob, jm_lok, Nat.reduceAdd, Nat.reduceMul, Nat.zero_add, Nat.add_zero, Nat.mul_zero, Nat.zero_mul, e_mw_isSmall, e_mw_isDigit, e_mw_isDigit0, e_mw_isGreat, e_xs_isSmall, e_xs_isFigure, e_xs_isGreat, e_mw_isLetter, e_xs_isLetter, e_isBlank, e_xs_isBlank, e_isFrom, e_isIn]
          exact ⟨fun q => absurd cg q, fun _ => ih⟩
        · rw [gt1_f cg, ← ovN_min best (by omega)] at ih
          simp (disch := omega) only [ks, e0, ktb, pra, kra, ho, hxr, pl, kl, pc, kc, p20, k20, hq, e2, kb, hbp, e_xs_isGreat, e_min, forall_eq, forall_eq', exists_eq_left, exists_eq_left', true_and, and_true, true_implies, false_implies, not_true_eq_false, not_false_eq_true, Prod.mk.injEq, Option.some.injEq, reduceCtorEq, and_self, implies_true, eq_self, Classical.not_not, and_false, false_and, ite_true, ite_false, reduceIte, bI_0, or_false, false_or, or_true, true_or, or_self, if_true, if_false, n_le_t, n_le_f, n_lt_t, n_lt_f, n_eq_t, n_eq_f, n_toInt, n_cl, n_vp, n_eqM, M_eqn, n_leM, n_ltM, M_len, M_ltn, M_add, n_sub, iM_toInt, x_lt_t, x_lt_f, x_le_t, x_le_f, lt_x_t, lt_x_f, le_x_t, le_x_f, x_eq_f, nI_add, pk_mul, bI_t, bI_f, Int32.toInt_toInt64, n_subI, x_add0, i_le_t, i_le_f, i_lt_t, i_lt_f, k_le_t, k_le_f, k_lt_t, k_lt_f, li_0, li_1, li_2, li_3, li_4, li_5, li_6, li_7, li_8, li_9, li_10, li_11, li_12, li_16, li_20, li_24, li_25, li_26, li_30, li_31, li_32, li_40, li_48, li_49, li_57, li_59, li_60, li_63, li_64, li_65, li_90, li_96, li_97, li_106, li_122, li_255, li_300, li_600, li_800, li_900, li_1850, li_2000, li_2010, li_2040, li_2801, li_3300, li_4161, li_9999, li_10163, li_16500, li_16800, li_17100, li_18350, li_18510, li_18540, li_65536, li_100000, li_999999, li_1000000, li_2147483647, im_1, im_8, ll_0, ll_1, ll_2, ll_3, ll_4, ll_6, ll_16, ll_20, ll_40, ll_63, ll_800, ll_9999, jm_same, jm_ob, jm_ok, jm_il, jm_li, jm_lsame, jm_lob, jm_lok, Nat.reduceAdd, Nat.reduceMul, Nat.zero_add, Nat.add_zero, Nat.mul_zero, Nat.zero_mul, e_mw_isSmall, e_mw_isDigit, e_mw_isDigit0, e_mw_isGreat, e_xs_isSmall, e_xs_isFigure, e_xs_isGreat, e_mw_isLetter, e_xs_isLetter, e_isBlank, e_xs_isBlank, e_isFrom, e_isIn]
          exact ⟨fun _ => ih, fun q => absurd q cg⟩
    · rw [cI_f co]
      rw [loF_o co] at ih
      simp (disch := omega) only [forall_eq, forall_eq', exists_eq_left, exists_eq_left', true_and, and_true, true_implies, false_implies, not_true_eq_false, not_false_eq_true, Prod.mk.injEq, Option.some.injEq, reduceCtorEq, and_self, implies_true, eq_self, Classical.not_not, and_false, false_and, ite_true, ite_false, reduceIte, bI_0, or_false, false_or, or_true, true_or, or_self, if_true, if_false, n_le_t, n_le_f, n_lt_t, n_lt_f, n_eq_t, n_eq_f, n_toInt, n_cl, n_vp, n_eqM, M_eqn, n_leM, n_ltM, M_len, M_ltn, M_add, n_sub, iM_toInt, x_lt_t, x_lt_f, x_le_t, x_le_f, lt_x_t, lt_x_f, le_x_t, le_x_f, x_eq_f, nI_add, pk_mul, bI_t, bI_f, Int32.toInt_toInt64, n_subI, x_add0, i_le_t, i_le_f, i_lt_t, i_lt_f, k_le_t, k_le_f, k_lt_t, k_lt_f, li_0, li_1, li_2, li_3, li_4, li_5, li_6, li_7, li_8, li_9, li_10, li_11, li_12, li_16, li_20, li_24, li_25, li_26, li_30, li_31, li_32, li_40, li_48, li_49, li_57, li_59, li_60, li_63, li_64, li_65, li_90, li_96, li_97, li_106, li_122, li_255, li_300, li_600, li_800, li_900, li_1850, li_2000, li_2010, li_2040, li_2801, li_3300, li_4161, li_9999, li_10163, li_16500, li_16800, li_17100, li_18350, li_18510, li_18540, li_65536, li_100000, li_999999, li_1000000, li_2147483647, im_1, im_8, ll_0, ll_1, ll_2, ll_3, ll_4, ll_6, ll_16, ll_20, ll_40, ll_63, ll_800, ll_9999, jm_same, jm_ob, jm_ok, jm_il, jm_li, jm_lsame, jm_lob, jm_lok, Nat.reduceAdd, Nat.reduceMul, Nat.zero_add, Nat.add_zero, Nat.mul_zero, Nat.zero_mul, e_mw_isSmall, e_mw_isDigit, e_mw_isDigit0, e_mw_isGreat, e_xs_isSmall, e_xs_isFigure, e_xs_isGreat, e_mw_isLetter, e_xs_isLetter, e_isBlank, e_xs_isBlank, e_isFrom, e_isIn]
      exact ih
set_option maxHeartbeats 4000000 in
/-- a word -/
theorem x_few2 {first last c : Nat} {P : Int32 → XS → Prop} (hX : xSt a K ow u s t as h bb b bn g) (hTp : xTop u s as w) (hfl : first < last) (hl : last ≤ bn) (hc : loA h b g first last (last - first) first = some c)
    (hP : ∀ v, QZ ow u v → xSt a K ow v s t as h bb b bn g → xTop v s as w → P (nI c) v) : xw6_fewest_2 s (nI first) (nI last) K u P := by
  obtain ⟨hR, e0, hTb, hT, ⟨e2, ⟨nb, kb, hnb, hnb2⟩, ob, ob2⟩, e3, hbn, hb, hb2, e1, _⟩ := id hX
  obtain ⟨ks, os, _, _, _, _, _, _, _, _, _, _, _, p20, k20, o20⟩ := id hR
  have s20 : xsc (ow (as 20)) := by rw [o20]; unfold xsc; omega
  have hw : ∀ {v : XS} {q : Nat} {x : Int32}, QZ ow u v → xSt a K ow v s t as h bb b bn g → xTop v s as w → QZ ow u (xsi v (as 20) q x) ∧ xSt a K ow (xsi v (as 20) q x) s t as h bb b bn g ∧ xTop (xsi v (as 20) q x) s as w := fun h1 h2 h3 =>
    ⟨h1.s s20, h2.wr s20 (by omega) (fun z => by rw [z] at o20; omega), h3.wr h2 (by omega) (fun z => by rw [z] at o20; omega)⟩
  have key : ∃ n, xw6_fewest_2_L2 P K s (nI first) (nI last) n (acI (last - 0)) (xsi u (as 20) last (nI 0)) := by
    refine lp_st (fun n j v => xw6_fewest_2_L2 P K s (nI first) (nI last) n (acI (last - j)) v) (fun j v => (QZ ow u v ∧ xSt a K ow v s t as h bb b bn g ∧ xTop v s as w) ∧ ∀ i, last - j ≤ i → i ≤ last → xi v (as 20) i = nI (ovN 2147483647 (loA h b g first last j i))) (last - first) 0 _ (Nat.zero_le _) ⟨hw QZ.refl hX hTp, fun i h1 h2 => ?_⟩ (fun n v hI => ?_) (fun n j v hj hI ih => ?_)
    · have : i = last := by omega
      subst this
      rw [xi_same, loA_last _ (by omega)]
      rfl
    · obtain ⟨⟨hq, hS, hT2⟩, hv⟩ := hI
      have e5 := hv first (by omega) (by omega)
      rw [hc] at e5
      have e5 : xi v (as 20) first = nI c := e5
      have p20' : xr v s 20 = some (as 20) := hS.1.2.2.2.2.2.2.2.2.2.2.2.2.2.1
      unfold xw6_fewest_2_L2 xw6_fewest_2_L2_S
      rw [show last - (last - first) = first by omega]
      have z : (acI first < nI first) = True := by
        cases first with
        | zero => exact M_ltn (by omega)
        | succ k => rw [acI_s]; exact n_lt_t (by omega) (by omega)
      simp (disch := omega) only [z, ks, p20', k20, e5, forall_eq, forall_eq', exists_eq_left, exists_eq_left', true_and, and_true, true_implies, false_implies, not_true_eq_false, not_false_eq_true, Prod.mk.injEq, Option.some.injEq, reduceCtorEq, and_self, implies_true, eq_self, Classical.not_not, and_false, false_and, ite_true, ite_false, reduceIte, bI_0, or_false, false_or, or_true, true_or, or_self, if_true, if_false, n_le_t, n_le_f, n_lt_t, n_lt_f, n_eq_t, n_eq_f, n_toInt, n_cl, n_vp, n_eqM, M_eqn, n_leM, n_ltM, M_len, M_ltn, M_add, n_sub, iM_toInt, x_lt_t, x_lt_f, x_le_t, x_le_f, lt_x_t, lt_x_f, le_x_t, le_x_f, x_eq_f, nI_add, pk_mul, bI_t, bI_f, Int32.toInt_toInt64, n_subI, x_add0, i_le_t, i_le_f, i_lt_t, i_lt_f, k_le_t, k_le_f, k_lt_t, k_lt_f, li_0, li_1, li_2, li_3, li_4, li_5, li_6, li_7, li_8, li_9, li_10, li_11, li_12, li_16, li_20, li_24, li_25, li_26, li_30, li_31, li_32, li_40, li_48, li_49, li_57, li_59, li_60, li_63, li_64, li_65, li_90, li_96, li_97, li_106, li_122, li_255, li_300, li_600, li_800, li_900, li_1850, li_2000, li_2010, li_2040, li_2801, li_3300, li_4161, li_9999, li_10163, li_16500, li_16800, li_17100, li_18350, li_18510, li_18540, li_65536, li_100000, li_999999, li_1000000, li_2147483647, im_1, im_8, ll_0, ll_1, ll_2, ll_3, ll_4, ll_6, ll_16, ll_20, ll_40, ll_63, ll_800, ll_9999, jm_same, jm_ob, jm_ok, jm_il, jm_li, jm_lsame, jm_lob, jm_lok, Nat.reduceAdd, Nat.reduceMul, Nat.zero_add, Nat.add_zero, Nat.mul_zero, Nat.zero_mul, e_mw_isSmall, e_mw_isDigit, e_mw_isDigit0, e_mw_isGreat, e_xs_isSmall, e_xs_isFigure, e_xs_isGreat, e_mw_isLetter, e_xs_isLetter, e_isBlank, e_xs_isBlank, e_isFrom, e_isIn]
      exact hP v hq hS hT2
    · obtain ⟨⟨hq, hS, hT2⟩, hv⟩ := hI
      have e6 : last - j = (last - 1 - j) + 1 := by omega
      unfold xw6_fewest_2_L2 xw6_fewest_2_L2_S
      rw [e6, acI_s]
      simp (disch := omega) only [forall_eq, forall_eq', exists_eq_left, exists_eq_left', true_and, and_true, true_implies, false_implies, not_true_eq_false, not_false_eq_true, Prod.mk.injEq, Option.some.injEq, reduceCtorEq, and_self, implies_true, eq_self, Classical.not_not, and_false, false_and, ite_true, ite_false, reduceIte, bI_0, or_false, false_or, or_true, true_or, or_self, if_true, if_false, n_le_t, n_le_f, n_lt_t, n_lt_f, n_eq_t, n_eq_f, n_toInt, n_cl, n_vp, n_eqM, M_eqn, n_leM, n_ltM, M_len, M_ltn, M_add, n_sub, iM_toInt, x_lt_t, x_lt_f, x_le_t, x_le_f, lt_x_t, lt_x_f, le_x_t, le_x_f, x_eq_f, nI_add, pk_mul, bI_t, bI_f, Int32.toInt_toInt64, n_subI, x_add0, i_le_t, i_le_f, i_lt_t, i_lt_f, k_le_t, k_le_f, k_lt_t, k_lt_f, li_0, li_1, li_2, li_3, li_4, li_5, li_6, li_7, li_8, li_9, li_10, li_11, li_12, li_16, li_20, li_24, li_25, li_26, li_30, li_31, li_32, li_40, li_48, li_49, li_57, li_59, li_60, li_63, li_64, li_65, li_90, li_96, li_97, li_106, li_122, li_255, li_300, li_600, li_800, li_900, li_1850, li_2000, li_2010, li_2040, li_2801, li_3300, li_4161, li_9999, li_10163, li_16500, li_16800, li_17100, li_18350, li_18510, li_18540, li_65536, li_100000, li_999999, li_1000000, li_2147483647, im_1, im_8, ll_0, ll_1, ll_2, ll_3, ll_4, ll_6, ll_16, ll_20, ll_40, ll_63, ll_800, ll_9999, jm_same, jm_ob, jm_ok, jm_il, jm_li, jm_lsame, jm_lob, jm_lok, Nat.reduceAdd, Nat.reduceMul, Nat.zero_add, Nat.add_zero, Nat.mul_zero, Nat.zero_mul, e_mw_isSmall, e_mw_isDigit, e_mw_isDigit0, e_mw_isGreat, e_xs_isSmall, e_xs_isFigure, e_xs_isGreat, e_mw_isLetter, e_xs_isLetter, e_isBlank, e_xs_isBlank, e_isFrom, e_isIn]
      refine x_few3 (A := loA h b g first last j) hS hl (by omega) (by omega) (fun q h1 h2 => hv q (by omega) h2) (fun q x hx => by have := (loA_le hT j (by omega) q x hx).2; omega) ?_
      have e7 := ih (xsi v (as 20) (last - 1 - j) (nI (ovN 2147483647 (loA h b g first last (j + 1) (last - 1 - j))))) ⟨hw hq hS hT2, fun i h1 h2 => by
        by_cases z : i = last - 1 - j
        · subst z; rw [xi_same]
        · rw [xi_ok z, hv i (by omega) h2, loA_p z]⟩
      rw [loA_n, show last - (j + 1) = last - 1 - j by omega] at e7
      exact e7
  obtain ⟨n, hn⟩ := key
  unfold xw6_fewest_2
  refine ⟨n + 1, ?_⟩
  unfold xw6_fewest_2_L2 xw6_fewest_2_L2_S
  obtain ⟨tb, ptb, ktb⟩ := hR.2.2.1
  have e9 : tb = t := by rw [ptb] at e0; injection e0
  subst e9
  rw [Nat.sub_zero] at hn
  simp (disch := omega) only [forall_eq, forall_eq', exists_eq_left, exists_eq_left', true_and, and_true, true_implies, false_implies, not_true_eq_false, not_false_eq_true, Prod.mk.injEq, Option.some.injEq, reduceCtorEq, and_self, implies_true, eq_self, Classical.not_not, and_false, false_and, ite_true, ite_false, reduceIte, bI_0, or_false, false_or, or_true, true_or, or_self, if_true, if_false, n_le_t, n_le_f, n_lt_t, n_lt_f, n_eq_t, n_eq_f, n_toInt, n_cl, n_vp, n_eqM, M_eqn, n_leM, n_ltM, M_len, M_ltn, M_add, n_sub, iM_toInt, x_lt_t, x_lt_f, x_le_t, x_le_f, lt_x_t, lt_x_f, le_x_t, le_x_f, x_eq_f, nI_add, pk_mul, bI_t, bI_f, Int32.toInt_toInt64, n_subI, x_add0, i_le_t, i_le_f, i_lt_t, i_lt_f, k_le_t, k_le_f, k_lt_t, k_lt_f, li_0, li_1, li_2, li_3, li_4, li_5, li_6, li_7, li_8, li_9, li_10, li_11, li_12, li_16, li_20, li_24, li_25, li_26, li_30, li_31, li_32, li_40, li_48, li_49, li_57, li_59, li_60, li_63, li_64, li_65, li_90, li_96, li_97, li_106, li_122, li_255, li_300, li_600, li_800, li_900, li_1850, li_2000, li_2010, li_2040, li_2801, li_3300, li_4161, li_9999, li_10163, li_16500, li_16800, li_17100, li_18350, li_18510, li_18540, li_65536, li_100000, li_999999, li_1000000, li_2147483647, im_1, im_8, ll_0, ll_1, ll_2, ll_3, ll_4, ll_6, ll_16, ll_20, ll_40, ll_63, ll_800, ll_9999, jm_same, jm_ob, jm_ok, jm_il, jm_li, jm_lsame, jm_lob, jm_lok, Nat.reduceAdd, Nat.reduceMul, Nat.zero_add, Nat.add_zero, Nat.mul_zero, Nat.zero_mul, e_mw_isSmall, e_mw_isDigit, e_mw_isDigit0, e_mw_isGreat, e_xs_isSmall, e_xs_isFigure, e_xs_isGreat, e_mw_isLetter, e_xs_isLetter, e_isBlank, e_xs_isBlank, e_isFrom, e_isIn]
  refine ⟨1, ?_⟩
  unfold xw6_fewest_2_L23 xw6_fewest_2_L23_S
  obtain ⟨ra, ktb, otb, pra, kra, ora, f1, _⟩ := id hTb
  obtain ⟨⟨g0, g0l⟩, _⟩ := id hT
  by_cases z : hN h 0 = 0
  · rw [z] at g0
    simp (disch := omega) only [ks, e0, ktb, f1, g0, p20, k20, acI_m, forall_eq, forall_eq', exists_eq_left, exists_eq_left', true_and, and_true, true_implies, false_implies, not_true_eq_false, not_false_eq_true, Prod.mk.injEq, Option.some.injEq, reduceCtorEq, and_self, implies_true, eq_self, Classical.not_not, and_false, false_and, ite_true, ite_false, reduceIte, bI_0, or_false, false_or, or_true, true_or, or_self, if_true, if_false, n_le_t, n_le_f, n_lt_t, n_lt_f, n_eq_t, n_eq_f, n_toInt, n_cl, n_vp, n_eqM, M_eqn, n_leM, n_ltM, M_len, M_ltn, M_add, n_sub, iM_toInt, x_lt_t, x_lt_f, x_le_t, x_le_f, lt_x_t, lt_x_f, le_x_t, le_x_f, x_eq_f, nI_add, pk_mul, bI_t, bI_f, Int32.toInt_toInt64, n_subI, x_add0, i_le_t, i_le_f, i_lt_t, i_lt_f, k_le_t, k_le_f, k_lt_t, k_lt_f, li_0, li_1, li_2, li_3, li_4, li_5, li_6, li_7, li_8, li_9, li_10, li_11, li_12, li_16, li_20, li_24, li_25, li_26, li_30, li_31, li_32, li_40, li_48, li_49, li_57, li_59, li_60, li_63, li_64, li_65, li_90, li_96, li_97, li_106, li_122, li_255, li_300, li_600, li_800, li_900, li_1850, li_2000, li_2010, li_2040, li_2801, li_3300, li_4161, li_9999, li_10163, li_16500, li_16800, li_17100, li_18350, li_18510, li_18540, li_65536, li_100000, li_999999, li_1000000, li_2147483647, im_1, im_8, ll_0, ll_1, ll_2, ll_3, ll_4, ll_6, ll_16, ll_20, ll_40, ll_63, ll_800, ll_9999, jm_same, jm_ob, jm_ok, jm_il, jm_li, jm_lsame, jm_lob, jm_lok, Nat.reduceAdd, Nat.reduceMul, Nat.zero_add, Nat.add_zero, Nat.mul_zero, Nat.zero_mul, e_mw_isSmall, e_mw_isDigit, e_mw_isDigit0, e_mw_isGreat, e_xs_isSmall, e_xs_isFigure, e_xs_isGreat, e_mw_isLetter, e_xs_isLetter, e_isBlank, e_xs_isBlank, e_isFrom, e_isIn]
    exact hn
  · simp (disch := omega) only [ks, e0, ktb, f1, g0, p20, k20, acI_m, forall_eq, forall_eq', exists_eq_left, exists_eq_left', true_and, and_true, true_implies, false_implies, not_true_eq_false, not_false_eq_true, Prod.mk.injEq, Option.some.injEq, reduceCtorEq, and_self, implies_true, eq_self, Classical.not_not, and_false, false_and, ite_true, ite_false, reduceIte, bI_0, or_false, false_or, or_true, true_or, or_self, if_true, if_false, n_le_t, n_le_f, n_lt_t, n_lt_f, n_eq_t, n_eq_f, n_toInt, n_cl, n_vp, n_eqM, M_eqn, n_leM, n_ltM, M_len, M_ltn, M_add, n_sub, iM_toInt, x_lt_t, x_lt_f, x_le_t, x_le_f, lt_x_t, lt_x_f, le_x_t, le_x_f, x_eq_f, nI_add, pk_mul, bI_t, bI_f, Int32.toInt_toInt64, n_subI, x_add0, i_le_t, i_le_f, i_lt_t, i_lt_f, k_le_t, k_le_f, k_lt_t, k_lt_f, li_0, li_1, li_2, li_3, li_4, li_5, li_6, li_7, li_8, li_9, li_10, li_11, li_12, li_16, li_20, li_24, li_25, li_26, li_30, li_31, li_32, li_40, li_48, li_49, li_57, li_59, li_60, li_63, li_64, li_65, li_90, li_96, li_97, li_106, li_122, li_255, li_300, li_600, li_800, li_900, li_1850, li_2000, li_2010, li_2040, li_2801, li_3300, li_4161, li_9999, li_10163, li_16500, li_16800, li_17100, li_18350, li_18510, li_18540, li_65536, li_100000, li_999999, li_1000000, li_2147483647, im_1, im_8, ll_0, ll_1, ll_2, ll_3, ll_4, ll_6, ll_16, ll_20, ll_40, ll_63, ll_800, ll_9999, jm_same, jm_ob, jm_ok, jm_il, jm_li, jm_lsame, jm_lob, jm_lok, Nat.reduceAdd, Nat.reduceMul, Nat.zero_add, Nat.add_zero, Nat.mul_zero, Nat.zero_mul, e_mw_isSmall, e_mw_isDigit, e_mw_isDigit0, e_mw_isGreat, e_xs_isSmall, e_xs_isFigure, e_xs_isGreat, e_mw_isLetter, e_xs_isLetter, e_isBlank, e_xs_isBlank, e_isFrom, e_isIn]
    exact hn
set_option maxHeartbeats 4000000 in
/-- great letters are left out -/
theorem x_few4 {G : Int32 → Int32 → XS → Prop} {P : Int32 → XS → Prop} {last : Nat} (hX : xSt a K ow u s t as h bb b bn g) (hl : last ≤ bn) : ∀ d p T, p + d = last → gtN b d p ≤ T → T ≤ 1000000 → G (nI (T - gtN b d p)) (nI last) u → xw6_fewest_L51 G P K s (nI last) (d + 1) (nI T) (nI p) u := by
  obtain ⟨hR, e0, hTb, hT, ⟨e2, ⟨nb, kb, hnb, hnb2⟩, ob, ob2⟩, e3, hbn, hb, hb2, e1, _⟩ := id hX
  have ks := hR.1
  intro d
  induction d with
  | zero =>
    intro p T hp hg hT hG
    have : p = last := by omega
    subst this
    unfold xw6_fewest_L51 xw6_fewest_L51_S
    simp (disch := omega) only [forall_eq, forall_eq', exists_eq_left, exists_eq_left', true_and, and_true, true_implies, false_implies, not_true_eq_false, not_false_eq_true, Prod.mk.injEq, Option.some.injEq, reduceCtorEq, and_self, implies_true, eq_self, Classical.not_not, and_false, false_and, ite_true, ite_false, reduceIte, bI_0, or_false, false_or, or_true, true_or, or_self, if_true, if_false, n_le_t, n_le_f, n_lt_t, n_lt_f, n_eq_t, n_eq_f, n_toInt, n_cl, n_vp, n_eqM, M_eqn, n_leM, n_ltM, M_len, M_ltn, M_add, n_sub, iM_toInt, x_lt_t, x_lt_f, x_le_t, x_le_f, lt_x_t, lt_x_f, le_x_t, le_x_f, x_eq_f, nI_add, pk_mul, bI_t, bI_f, Int32.toInt_toInt64, n_subI, x_add0, i_le_t, i_le_f, i_lt_t, i_lt_f, k_le_t, k_le_f, k_lt_t, k_lt_f, li_0, li_1, li_2, li_3, li_4, li_5, li_6, li_7, li_8, li_9, li_10, li_11, li_12, li_16, li_20, li_24, li_25, li_26, li_30, li_31, li_32, li_40, li_48, li_49, li_57, li_59, li_60, li_63, li_64, li_65, li_90, li_96, li_97, li_106, li_122, li_255, li_300, li_600, li_800, li_900, li_1850, li_2000, li_2010, li_2040, li_2801, li_3300, li_4161, li_9999, li_10163, li_16500, li_16800, li_17100, li_18350, li_18510, li_18540, li_65536, li_100000, li_999999, li_1000000, li_2147483647, im_1, im_8, ll_0, ll_1, ll_2, ll_3, ll_4, ll_6, ll_16, ll_20, ll_40, ll_63, ll_800, ll_9999, jm_same, jm_ob, jm_ok, jm_il, jm_li, jm_lsame, jm_lob, jm_lok, Nat.reduceAdd, Nat.reduceMul, Nat.zero_add, Nat.add_zero, Nat.mul_zero, Nat.zero_mul, e_mw_isSmall, e_mw_isDigit, e_mw_isDigit0, e_mw_isGreat, e_xs_isSmall, e_xs_isFigure, e_xs_isGreat, e_mw_isLetter, e_xs_isLetter, e_isBlank, e_xs_isBlank, e_isFrom, e_isIn]
    exact hG
  | succ d ih =>
    intro p T hp hg hT hG
    have e9 : gtN b (d + 1) p = gt1 (b p) + gtN b d (p + 1) := rfl
    have hbp := hb p (by omega)
    unfold xw6_fewest_L51 xw6_fewest_L51_S
    by_cases cg : inR (b p) 65 90
    · rw [gt1_t cg] at e9
      have ih2 := ih (p + 1) (T - 1) (by omega) (by omega) (by omega) (by rw [show T - 1 - gtN b d (p + 1) = T - gtN b (d + 1) p by omega]; exact hG)
      simp (disch := omega) only [ks, e2, kb, hbp, e_xs_isGreat, forall_eq, forall_eq', exists_eq_left, exists_eq_left', true_and, and_true, true_implies, false_implies, not_true_eq_false, not_false_eq_true, Prod.mk.injEq, Option.some.injEq, reduceCtorEq, and_self, implies_true, eq_self, Classical.not_not, and_false, false_and, ite_true, ite_false, reduceIte, bI_0, or_false, false_or, or_true, true_or, or_self, if_true, if_false, n_le_t, n_le_f, n_lt_t, n_lt_f, n_eq_t, n_eq_f, n_toInt, n_cl, n_vp, n_eqM, M_eqn, n_leM, n_ltM, M_len, M_ltn, M_add, n_sub, iM_toInt, x_lt_t, x_lt_f, x_le_t, x_le_f, lt_x_t, lt_x_f, le_x_t, le_x_f, x_eq_f, nI_add, pk_mul, bI_t, bI_f, Int32.toInt_toInt64, n_subI, x_add0, i_le_t, i_le_f, i_lt_t, i_lt_f, k_le_t, k_le_f, k_lt_t, k_lt_f, li_0, li_1, li_2, li_3, li_4, li_5, li_6, li_7, li_8, li_9, li_10, li_11, li_12, li_16, li_20, li_24, li_25, li_26, li_30, li_31, li_32, li_40, li_48, li_49, li_57, li_59, li_60, li_63, li_64, li_65, li_90, li_96, li_97, li_106, li_122, li_255, li_300, li_600, li_800, li_900, li_1850, li_2000, li_2010, li_2040, li_2801, li_3300, li_4161, li_9999, li_10163, li_16500, li_16800, li_17100, li_18350, li_18510, li_18540, li_65536, li_100000, li_999999, li_1000000, li_2147483647, im_1, im_8, ll_0, ll_1, ll_2, ll_3, ll_4, ll_6, ll_16, ll_20, ll_40, ll_63, ll_800, ll_9999, jm_same, jm_ob, jm_ok, jm_il, jm_li, jm_lsame, jm_lob, jm_lok, Nat.reduceAdd, Nat.reduceMul, Nat.zero_add, Nat.add_zero, Nat.mul_zero, Nat.zero_mul, e_mw_isSmall, e_mw_isDigit, e_mw_isDigit0, e_mw_isGreat, e_xs_isSmall, e_xs_isFigure, e_xs_isGreat, e_mw_isLetter, e_xs_isLetter, e_isBlank, e_xs_isBlank, e_isFrom, e_isIn]
      exact ⟨fun q => absurd cg q, fun _ => ih2⟩
    · rw [gt1_f cg] at e9
      have ih2 := ih (p + 1) T (by omega) (by omega) (by omega) (by rw [show T - gtN b d (p + 1) = T - gtN b (d + 1) p by omega]; exact hG)
      simp (disch := omega) only [ks, e2, kb, hbp, e_xs_isGreat, forall_eq, forall_eq', exists_eq_left, exists_eq_left', true_and, and_true, true_implies, false_implies, not_true_eq_false, not_false_eq_true, Prod.mk.injEq, Option.some.injEq, reduceCtorEq, and_self, implies_true, eq_self, Classical.not_not, and_false, false_and, ite_true, ite_false, reduceIte, bI_0, or_false, false_or, or_true, true_or, or_self, if_true, if_false, n_le_t, n_le_f, n_lt_t, n_lt_f, n_eq_t, n_eq_f, n_toInt, n_cl, n_vp, n_eqM, M_eqn, n_leM, n_ltM, M_len, M_ltn, M_add, n_sub, iM_toInt, x_lt_t, x_lt_f, x_le_t, x_le_f, lt_x_t, lt_x_f, le_x_t, le_x_f, x_eq_f, nI_add, pk_mul, bI_t, bI_f, Int32.toInt_toInt64, n_subI, x_add0, i_le_t, i_le_f, i_lt_t, i_lt_f, k_le_t, k_le_f, k_lt_t, k_lt_f, li_0, li_1, li_2, li_3, li_4, li_5, li_6, li_7, li_8, li_9, li_10, li_11, li_12, li_16, li_20, li_24, li_25, li_26, li_30, li_31, li_32, li_40, li_48, li_49, li_57, li_59, li_60, li_63, li_64, li_65, li_90, li_96, li_97, li_106, li_122, li_255, li_300, li_600, li_800, li_900, li_1850, li_2000, li_2010, li_2040, li_2801, li_3300, li_4161, li_9999, li_10163, li_16500, li_16800, li_17100, li_18350, li_18510, li_18540, li_65536, li_100000, li_999999, li_1000000, li_2147483647, im_1, im_8, ll_0, ll_1, ll_2, ll_3, ll_4, ll_6, ll_16, ll_20, ll_40, ll_63, ll_800, ll_9999, jm_same, jm_ob, jm_ok, jm_il, jm_li, jm_lsame, jm_lob, jm_lok, Nat.reduceAdd, Nat.reduceMul, Nat.zero_add, Nat.add_zero, Nat.mul_zero, Nat.zero_mul, e_mw_isSmall, e_mw_isDigit, e_mw_isDigit0, e_mw_isGreat, e_xs_isSmall, e_xs_isFigure, e_xs_isGreat, e_mw_isLetter, e_xs_isLetter, e_isBlank, e_xs_isBlank, e_isFrom, e_isIn]
      exact ⟨fun _ => ih2, fun q => absurd q cg⟩
set_option maxHeartbeats 4000000 in
/-- all words -/
theorem x_few {P : Int32 → XS → Prop} (hX : xSt a K ow u s t as h bb b bn g) (hTp : xTop u s as w) (hw8 : hN w 8 ≤ 1250) (e8 : w 8 = nI (hN w 8)) (e11 : w 11 = nI (hN w 11)) : ∀ f p W F T v, FW h b g bn f p W F → p ≤ bn → QZ ow u v → xSt a K ow v s t as h bb b bn g → xTop v s as w → gtN b (bn - p) p + hN w 11 ≤ T → T ≤ 1250 + 1200 * p →
    (∀ v, QZ ow u v → P (nI (T + W - gtN b (bn - p) p - hN w 11)) v) → xw6_fewest_L7 P K s f (nI T) (nI p) v
  | 0, p, W, F, T, v, hF, hp, hq, hS, hT2, hg, hT3, hP => hF.elim
  | f + 1, p, W, F, T, v, hF, hp, hq, hS, hT2, hg, hT3, hP => by
    obtain ⟨hR, e0, hTb, hT, ⟨e2, ⟨nb, kb, hnb, hnb2⟩, ob, ob2⟩, e3, hbn, hb, hb2, e1, _⟩ := id hS
    have ks := hR.1
    have y7 : xi v s 7 = nI (hN w 11) := by rw [← e11]; exact hT2.2.2.2.1
    unfold xw6_fewest_L7 xw6_fewest_L7_S
    rcases hF with ⟨h1, rfl, rfl⟩ | ⟨h1, hL, c, V, hc, rfl, hF⟩ | ⟨h1, hL, hD, r, G, hj, rfl, hF⟩ | ⟨h1, hL, hD, hF⟩
    · have : p = bn := by omega
      subst this
      have := hP v hq
      rw [show p - p = 0 by omega] at this hg
      have e9 : gtN b 0 p = 0 := rfl
      rw [e9, Nat.add_zero, Nat.sub_zero] at this
      rw [e9] at hg
      simp (disch := omega) only [ks, e3, y7, forall_eq, forall_eq', exists_eq_left, exists_eq_left', true_and, and_true, true_implies, false_implies, not_true_eq_false, not_false_eq_true, Prod.mk.injEq, Option.some.injEq, reduceCtorEq, and_self, implies_true, eq_self, Classical.not_not, and_false, false_and, ite_true, ite_false, reduceIte, bI_0, or_false, false_or, or_true, true_or, or_self, if_true, if_false, n_le_t, n_le_f, n_lt_t, n_lt_f, n_eq_t, n_eq_f, n_toInt, n_cl, n_vp, n_eqM, M_eqn, n_leM, n_ltM, M_len, M_ltn, M_add, n_sub, iM_toInt, x_lt_t, x_lt_f, x_le_t, x_le_f, lt_x_t, lt_x_f, le_x_t, le_x_f, x_eq_f, nI_add, pk_mul, bI_t, bI_f, Int32.toInt_toInt64, n_subI, x_add0, i_le_t, i_le_f, i_lt_t, i_lt_f, k_le_t, k_le_f, k_lt_t, k_lt_f, li_0, li_1, li_2, li_3, li_4, li_5, li_6, li_7, li_8, li_9, li_10, li_11, li_12, li_16, li_20, li_24, li_25, li_26, li_30, li_31, li_32, li_40, li_48, li_49, li_57, li_59, li_60, li_63, li_64, li_65, li_90, li_96, li_97, li_106, li_122, li_255, li_300, li_600, li_800, li_900, li_1850, li_2000, li_2010, li_2040, li_2801, li_3300, li_4161, li_9999, li_10163, li_16500, li_16800, li_17100, li_18350, li_18510, li_18540, li_65536, li_100000, li_999999, li_1000000, li_2147483647, im_1, im_8, ll_0, ll_1, ll_2, ll_3, ll_4, ll_6, ll_16, ll_20, ll_40, ll_63, ll_800, ll_9999, jm_same, jm_ob, jm_ok, jm_il, jm_li, jm_lsame, jm_lob, jm_lok, Nat.reduceAdd, Nat.reduceMul, Nat.zero_add, Nat.add_zero, Nat.mul_zero, Nat.zero_mul, e_mw_isSmall, e_mw_isDigit, e_mw_isDigit0, e_mw_isGreat, e_xs_isSmall, e_xs_isFigure, e_xs_isGreat, e_mw_isLetter, e_xs_isLetter, e_isBlank, e_xs_isBlank, e_isFrom, e_isIn]
      exact this
    · have hbp := hb p h1
      have hlt := weS_lt hb2 hL
      have hle := weS_le (b := b) (bn := bn) (p := p) (by omega)
      have hcl := (loA_le hT _ (by omega) _ _ hc).2
      have y3 := gtN_add (b := b) (weS b bn p - p) (bn - weS b bn p) p
      rw [show weS b bn p - p + (bn - weS b bn p) = bn - p by omega, show p + (weS b bn p - p) = weS b bn p by omega] at y3
      simp (disch := omega) only [ks, e3, e2, kb, hbp, e_xs_isLetter, forall_eq, forall_eq', exists_eq_left, exists_eq_left', true_and, and_true, true_implies, false_implies, not_true_eq_false, not_false_eq_true, Prod.mk.injEq, Option.some.injEq, reduceCtorEq, and_self, implies_true, eq_self, Classical.not_not, and_false, false_and, ite_true, ite_false, reduceIte, bI_0, or_false, false_or, or_true, true_or, or_self, if_true, if_false, n_le_t, n_le_f, n_lt_t, n_lt_f, n_eq_t, n_eq_f, n_toInt, n_cl, n_vp, n_eqM, M_eqn, n_leM, n_ltM, M_len, M_ltn, M_add, n_sub, iM_toInt, x_lt_t, x_lt_f, x_le_t, x_le_f, lt_x_t, lt_x_f, le_x_t, le_x_f, x_eq_f, nI_add, pk_mul, bI_t, bI_f, Int32.toInt_toInt64, n_subI, x_add0, i_le_t, i_le_f, i_lt_t, i_lt_f, k_le_t, k_le_f, k_lt_t, k_lt_f, li_0, li_1, li_2, li_3, li_4, li_5, li_6, li_7, li_8, li_9, li_10, li_11, li_12, li_16, li_20, li_24, li_25, li_26, li_30, li_31, li_32, li_40, li_48, li_49, li_57, li_59, li_60, li_63, li_64, li_65, li_90, li_96, li_97, li_106, li_122, li_255, li_300, li_600, li_800, li_900, li_1850, li_2000, li_2010, li_2040, li_2801, li_3300, li_4161, li_9999, li_10163, li_16500, li_16800, li_17100, li_18350, li_18510, li_18540, li_65536, li_100000, li_999999, li_1000000, li_2147483647, im_1, im_8, ll_0, ll_1, ll_2, ll_3, ll_4, ll_6, ll_16, ll_20, ll_40, ll_63, ll_800, ll_9999, jm_same, jm_ob, jm_ok, jm_il, jm_li, jm_lsame, jm_lob, jm_lok, Nat.reduceAdd, Nat.reduceMul, Nat.zero_add, Nat.add_zero, Nat.mul_zero, Nat.zero_mul, e_mw_isSmall, e_mw_isDigit, e_mw_isDigit0, e_mw_isGreat, e_xs_isSmall, e_xs_isFigure, e_xs_isGreat, e_mw_isLetter, e_xs_isLetter, e_isBlank, e_xs_isBlank, e_isFrom, e_isIn]
      refine ⟨fun _ => ?_, fun q => absurd hL q⟩
      refine x_wordEnd hS (by omega) ?_
      refine x_few2 hS hT2 hlt hle hc (fun v2 hq2 hS2 hT4 => ?_)
      simp (disch := omega) only [forall_eq, forall_eq', exists_eq_left, exists_eq_left', true_and, and_true, true_implies, false_implies, not_true_eq_false, not_false_eq_true, Prod.mk.injEq, Option.some.injEq, reduceCtorEq, and_self, implies_true, eq_self, Classical.not_not, and_false, false_and, ite_true, ite_false, reduceIte, bI_0, or_false, false_or, or_true, true_or, or_self, if_true, if_false, n_le_t, n_le_f, n_lt_t, n_lt_f, n_eq_t, n_eq_f, n_toInt, n_cl, n_vp, n_eqM, M_eqn, n_leM, n_ltM, M_len, M_ltn, M_add, n_sub, iM_toInt, x_lt_t, x_lt_f, x_le_t, x_le_f, lt_x_t, lt_x_f, le_x_t, le_x_f, x_eq_f, nI_add, pk_mul, bI_t, bI_f, Int32.toInt_toInt64, n_subI, x_add0, i_le_t, i_le_f, i_lt_t, i_lt_f, k_le_t, k_le_f, k_lt_t, k_lt_f, li_0, li_1, li_2, li_3, li_4, li_5, li_6, li_7, li_8, li_9, li_10, li_11, li_12, li_16, li_20, li_24, li_25, li_26, li_30, li_31, li_32, li_40, li_48, li_49, li_57, li_59, li_60, li_63, li_64, li_65, li_90, li_96, li_97, li_106, li_122, li_255, li_300, li_600, li_800, li_900, li_1850, li_2000, li_2010, li_2040, li_2801, li_3300, li_4161, li_9999, li_10163, li_16500, li_16800, li_17100, li_18350, li_18510, li_18540, li_65536, li_100000, li_999999, li_1000000, li_2147483647, im_1, im_8, ll_0, ll_1, ll_2, ll_3, ll_4, ll_6, ll_16, ll_20, ll_40, ll_63, ll_800, ll_9999, jm_same, jm_ob, jm_ok, jm_il, jm_li, jm_lsame, jm_lob, jm_lok, Nat.reduceAdd, Nat.reduceMul, Nat.zero_add, Nat.add_zero, Nat.mul_zero, Nat.zero_mul, e_mw_isSmall, e_mw_isDigit, e_mw_isDigit0, e_mw_isGreat, e_xs_isSmall, e_xs_isFigure, e_xs_isGreat, e_mw_isLetter, e_xs_isLetter, e_isBlank, e_xs_isBlank, e_isFrom, e_isIn]
      refine ⟨_, x_few4 hS2 hle (weS b bn p - p) p (T + c) (by omega) (by omega) (by omega) ?_⟩
      refine x_few hX hTp hw8 e8 e11 f _ V F _ v2 hF hle (hq.trans hq2) hS2 hT4 (by omega) (by omega) (fun v3 hq3 => ?_)
      have := hP v3 hq3
      rw [show T + c - gtN b (weS b bn p - p) p + V - gtN b (bn - weS b bn p) (weS b bn p) - hN w 11 = T + (c + V) - gtN b (bn - p) p - hN w 11 by omega]
      exact this
    · have hbp := hb p h1
      have e9 : gtN b (bn - p) p = gtN b (bn - (p + 1)) (p + 1) := by
        rw [show bn - p = (bn - (p + 1)) + 1 by omega]
        show gt1 (b p) + _ = _
        rw [gt1_f (notG_B hL), Nat.zero_add]
      have := x_few hX hTp hw8 e8 e11 f (p + 1) W G T v hF (by omega) hq hS hT2 (by omega) (by omega) (fun v3 hq3 => by rw [← e9]; exact hP v3 hq3)
      simp (disch := omega) only [ks, e3, e2, kb, hbp, e_xs_isLetter, forall_eq, forall_eq', exists_eq_left, exists_eq_left', true_and, and_true, true_implies, false_implies, not_true_eq_false, not_false_eq_true, Prod.mk.injEq, Option.some.injEq, reduceCtorEq, and_self, implies_true, eq_self, Classical.not_not, and_false, false_and, ite_true, ite_false, reduceIte, bI_0, or_false, false_or, or_true, true_or, or_self, if_true, if_false, n_le_t, n_le_f, n_lt_t, n_lt_f, n_eq_t, n_eq_f, n_toInt, n_cl, n_vp, n_eqM, M_eqn, n_leM, n_ltM, M_len, M_ltn, M_add, n_sub, iM_toInt, x_lt_t, x_lt_f, x_le_t, x_le_f, lt_x_t, lt_x_f, le_x_t, le_x_f, x_eq_f, nI_add, pk_mul, bI_t, bI_f, Int32.toInt_toInt64, n_subI, x_add0, i_le_t, i_le_f, i_lt_t, i_lt_f, k_le_t, k_le_f, k_lt_t, k_lt_f, li_0, li_1, li_2, li_3, li_4, li_5, li_6, li_7, li_8, li_9, li_10, li_11, li_12, li_16, li_20, li_24, li_25, li_26, li_30, li_31, li_32, li_40, li_48, li_49, li_57, li_59, li_60, li_63, li_64, li_65, li_90, li_96, li_97, li_106, li_122, li_255, li_300, li_600, li_800, li_900, li_1850, li_2000, li_2010, li_2040, li_2801, li_3300, li_4161, li_9999, li_10163, li_16500, li_16800, li_17100, li_18350, li_18510, li_18540, li_65536, li_100000, li_999999, li_1000000, li_2147483647, im_1, im_8, ll_0, ll_1, ll_2, ll_3, ll_4, ll_6, ll_16, ll_20, ll_40, ll_63, ll_800, ll_9999, jm_same, jm_ob, jm_ok, jm_il, jm_li, jm_lsame, jm_lob, jm_lok, Nat.reduceAdd, Nat.reduceMul, Nat.zero_add, Nat.add_zero, Nat.mul_zero, Nat.zero_mul, e_mw_isSmall, e_mw_isDigit, e_mw_isDigit0, e_mw_isGreat, e_xs_isSmall, e_xs_isFigure, e_xs_isGreat, e_mw_isLetter, e_xs_isLetter, e_isBlank, e_xs_isBlank, e_isFrom, e_isIn]
      exact ⟨fun q => absurd q hL, fun _ => this⟩
    · have hbp := hb p h1
      have e9 : gtN b (bn - p) p = gtN b (bn - (p + 1)) (p + 1) := by
        rw [show bn - p = (bn - (p + 1)) + 1 by omega]
        show gt1 (b p) + _ = _
        rw [gt1_f (notG_B hL), Nat.zero_add]
      have := x_few hX hTp hw8 e8 e11 f (p + 1) W F T v hF (by omega) hq hS hT2 (by omega) (by omega) (fun v3 hq3 => by rw [← e9]; exact hP v3 hq3)
      simp (disch := omega) only [ks, e3, e2, kb, hbp, e_xs_isLetter, forall_eq, forall_eq', exists_eq_left, exists_eq_left', true_and, and_true, true_implies, false_implies, not_true_eq_false, not_false_eq_true, Prod.mk.injEq, Option.some.injEq, reduceCtorEq, and_self, implies_true, eq_self, Classical.not_not, and_false, false_and, ite_true, ite_false, reduceIte, bI_0, or_false, false_or, or_true, true_or, or_self, if_true, if_false, n_le_t, n_le_f, n_lt_t, n_lt_f, n_eq_t, n_eq_f, n_toInt, n_cl, n_vp, n_eqM, M_eqn, n_leM, n_ltM, M_len, M_ltn, M_add, n_sub, iM_toInt, x_lt_t, x_lt_f, x_le_t, x_le_f, lt_x_t, lt_x_f, le_x_t, le_x_f, x_eq_f, nI_add, pk_mul, bI_t, bI_f, Int32.toInt_toInt64, n_subI, x_add0, i_le_t, i_le_f, i_lt_t, i_lt_f, k_le_t, k_le_f, k_lt_t, k_lt_f, li_0, li_1, li_2, li_3, li_4, li_5, li_6, li_7, li_8, li_9, li_10, li_11, li_12, li_16, li_20, li_24, li_25, li_26, li_30, li_31, li_32, li_40, li_48, li_49, li_57, li_59, li_60, li_63, li_64, li_65, li_90, li_96, li_97, li_106, li_122, li_255, li_300, li_600, li_800, li_900, li_1850, li_2000, li_2010, li_2040, li_2801, li_3300, li_4161, li_9999, li_10163, li_16500, li_16800, li_17100, li_18350, li_18510, li_18540, li_65536, li_100000, li_999999, li_1000000, li_2147483647, im_1, im_8, ll_0, ll_1, ll_2, ll_3, ll_4, ll_6, ll_16, ll_20, ll_40, ll_63, ll_800, ll_9999, jm_same, jm_ob, jm_ok, jm_il, jm_li, jm_lsame, jm_lob, jm_lok, Nat.reduceAdd, Nat.reduceMul, Nat.zero_add, Nat.add_zero, Nat.mul_zero, Nat.zero_mul, e_mw_isSmall, e_mw_isDigit, e_mw_isDigit0, e_mw_isGreat, e_xs_isSmall, e_xs_isFigure, e_xs_isGreat, e_mw_isLetter, e_xs_isLetter, e_isBlank, e_xs_isBlank, e_isFrom, e_isIn]
      exact ⟨fun q => absurd q hL, fun _ => this⟩
end XBM
