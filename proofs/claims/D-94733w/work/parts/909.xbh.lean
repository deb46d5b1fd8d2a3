/-! PLAIN LAW: dots that wear off -/
set_option linter.unusedVariables false
def dwS (s : Int32) : Int32 := (s * nI 2801 + nI 10163) - (s * nI 2801 + nI 10163) / nI 65536 * nI 65536
def dwR (s : Int32) : Int32 := s / nI 8 - s / nI 8 / nI 16 * nI 16
def wrM (d : Nat) : Int32 := (nI 1 <<< (nI d &&& nI 31)) ^^^ iM
def wrB0 (c : Int32) (d : Nat) : Prop := (c >>> (nI d &&& nI 31)) &&& nI 1 = nI 0
/-- a cell's dots: the state, how many are gone, what is left -/
noncomputable def wrI (c six : Int32) (d : Nat) (s : Int32 × Int32 × Int32) : Int32 × Int32 × Int32 :=
  cI (wrB0 c d) s (cI (dwR (dwS s.1) < six) (dwS s.1, s.2.1 + nI 1, s.2.2 &&& wrM d) (dwS s.1, s.2.1, s.2.2))
theorem wrI_0 {c six x y z : Int32} {d : Nat} (h : wrB0 c d) : wrI c six d (x, y, z) = (x, y, z) := cI_t h
theorem wrI_1 {c six x y z : Int32} {d : Nat} (h : ¬ wrB0 c d) (h2 : dwR (dwS x) < six) : wrI c six d (x, y, z) = (dwS x, y + nI 1, z &&& wrM d) := by
  unfold wrI; rw [cI_f h]; exact cI_t h2
theorem wrI_2 {c six x y z : Int32} {d : Nat} (h : ¬ wrB0 c d) (h2 : ¬ dwR (dwS x) < six) : wrI c six d (x, y, z) = (dwS x, y, z) := by
  unfold wrI; rw [cI_f h]; exact cI_f h2
/-- all cells: the state, how many are gone, what is left of each -/
noncomputable def wrC (h : Nat → Int32) (six : Int32) (k : Nat) (s : Int32 × Int32 × (Nat → Int32)) : Int32 × Int32 × Int32 := it (wrI (h (600 + k)) six) (s.1, s.2.1, h (600 + k)) 6
noncomputable def wrO (h : Nat → Int32) (six : Int32) (k : Nat) (s : Int32 × Int32 × (Nat → Int32)) : Int32 × Int32 × (Nat → Int32) := ((wrC h six k s).1, (wrC h six k s).2.1, up s.2.2 k (wrC h six k s).2.2)
noncomputable def wrA (h : Nat → Int32) (seed six : Int32) (n : Nat) : Int32 × Int32 × (Nat → Int32) := it (wrO h six) (seed, nI 0, fun _ => nI 0) n
theorem wr_all : ∀ d : Fin 6, ∀ c : Fin 64, nI c.val &&& wrM d.val = nI (c.val &&& (63 ^^^ (1 <<< d.val))) := by decide +kernel
theorem wrI_lt {c six : Int32} {n : Nat} (hn : n < 64) (hc : c = nI n) : ∀ d x y, d ≤ 6 → ∃ q, (it (wrI c six) (x, y, c) d).2.2 = nI q ∧ q < 64
  | 0, x, y, _ => ⟨n, hc, hn⟩
  | d + 1, x, y, hd => by
    obtain ⟨q, h1, h2⟩ := wrI_lt hn hc (six := six) d x y (by omega)
    rw [it_s]
    generalize it (wrI c six) (x, y, c) d = t at h1
    obtain ⟨t1, t2, t3⟩ := t
    have h1 : t3 = nI q := h1
    by_cases b : wrB0 c d
    · rw [wrI_0 b]; exact ⟨q, h1, h2⟩
    · by_cases l : dwR (dwS t1) < six
      · rw [wrI_1 b l]
        refine ⟨q &&& (63 ^^^ (1 <<< d)), ?_, ?_⟩
        · show t3 &&& wrM d = _
          rw [h1]; exact wr_all ⟨d, by omega⟩ ⟨q, h2⟩
        · exact Nat.lt_of_le_of_lt Nat.and_le_left h2
      · rw [wrI_2 b l]; exact ⟨q, h1, h2⟩
theorem wrA_lt {h : Nat → Int32} {seed six : Int32} {n : Nat} (hc : ∀ k, k < n → ∃ q, h (600 + k) = nI q ∧ q < 64) : ∀ j, j ≤ n → ∀ k, k < j → ∃ q, (wrA h seed six j).2.2 k = nI q ∧ q < 64
  | 0, _, k, hk => by omega
  | j + 1, hj, k, hk => by
    show ∃ q, (wrO h six j (wrA h seed six j)).2.2 k = nI q ∧ q < 64
    show ∃ q, up (wrA h seed six j).2.2 j (wrC h six j (wrA h seed six j)).2.2 k = nI q ∧ q < 64
    by_cases z : k = j
    · subst z
      rw [up_s]
      obtain ⟨q, h1, h2⟩ := hc k (by omega)
      exact wrI_lt h2 h1 6 _ _ (Nat.le_refl _)
    · rw [up_n z]; exact wrA_lt hc j (by omega) k (by omega)
theorem xsi_xsi {u : XS} {b j : Nat} {x y : Int32} : xsi (xsi u b j x) b j y = xsi u b j y := by
  unfold xsi
  refine Prod.ext ?_ rfl
  funext p q
  by_cases z : p = b ∧ q = j
  · simp [z]
  · simp [z]
section XCH
variable {a : Nat → Nat} {K : XK} {ow : Nat → Nat} {u v : XS} {m n : MS} {h : Nat → Int32}
set_option maxHeartbeats 8000000 in
theorem x_wears {seed six : Int32} {P : Int32 → XS → Prop} {w q1 : Nat} (k0 : K (a 0) = (1, 0)) (p10 : xr u (a 0) 10 = some (a 2)) (k2 : K (a 2) = (1, 4)) (pw : xr u (a 2) 2 = some w) (kw : K w = (1, 15)) (pq1 : xr u w 1 = some q1) (kq1 : K q1 = (2, hN h 8)) (h8 : hN h 8 ≤ 1250) (oq1 : ow q1 = 100) (v1 : ∀ k, k < hN h 8 → xi u q1 k = h (600 + k))
    (p24 : xr u (a 0) 24 = some (a 20)) (k20 : K (a 20) = (2, 1400)) (o20 : ow (a 20) = 20) (hP : ∀ v, QZ ow u v → (∀ b k, b ≠ a 20 → xi v b k = xi u b k) → (∀ b k, xl v b k = xl u b k) → (∀ b k, xr v b k = xr u b k) → (∀ k, k < hN h 8 → xi v (a 20) k = (wrA h seed six (hN h 8)).2.2 k) → P (wrA h seed six (hN h 8)).2.1 v) : xw0_wears (a 0) seed six K u P := by
  have nq : q1 ≠ a 20 := fun z => by rw [z] at oq1; omega
  unfold xw0_wears
  have key := lp_st (fun f k v => xw0_wears_L8 P K (a 0) six f (wrA h seed six k).1 (wrA h seed six k).2.1 (nI k) v) (fun k v => (∀ b k, b ≠ a 20 → xi v b k = xi u b k) ∧ (∀ b k, xl v b k = xl u b k) ∧ (∀ b k, xr v b k = xr u b k) ∧ ∀ j, j < k → xi v (a 20) j = (wrA h seed six k).2.2 j) (hN h 8) 0 u (Nat.zero_le _)
    ⟨fun _ _ _ => rfl, fun _ _ => rfl, fun _ _ => rfl, fun j hj => by omega⟩ (fun f v hI => ?_) (fun f k v hk hI ih => ?_)
  · exact key
  · obtain ⟨hb, hl, hr, hv⟩ := hI
    unfold xw0_wears_L8 xw0_wears_L8_S
    simp (disch := omega) only [k0, hr, p10, k2, pw, kw, pq1, kq1, forall_eq, forall_eq', exists_eq_left, exists_eq_left', true_and, and_true, true_implies, false_implies, not_true_eq_false, not_false_eq_true, Prod.mk.injEq, Option.some.injEq, reduceCtorEq, and_self, implies_true, eq_self, Classical.not_not, and_false, false_and, ite_true, ite_false, reduceIte, bI_0, or_false, false_or, or_true, true_or, or_self, if_true, if_false, n_le_t, n_le_f, n_lt_t, n_lt_f, n_eq_t, n_eq_f, n_toInt, n_cl, n_vp, n_eqM, M_eqn, n_leM, n_ltM, M_len, M_ltn, M_add, n_sub, iM_toInt, x_lt_t, x_lt_f, x_le_t, x_le_f, lt_x_t, lt_x_f, le_x_t, le_x_f, x_eq_f, nI_add, pk_mul, bI_t, bI_f, Int32.toInt_toInt64, n_subI, x_add0, i_le_t, i_le_f, i_lt_t, i_lt_f, k_le_t, k_le_f, k_lt_t, k_lt_f, li_0, li_1, li_2, li_3, li_4, li_5, li_6, li_7, li_8, li_9, li_10, li_11, li_12, li_16, li_20, li_24, li_25, li_26, li_30, li_31, li_32, li_40, li_48, li_49, li_57, li_59, li_60, li_63, li_64, li_65, li_90, li_96, li_97, li_106, li_122, li_255, li_300, li_600, li_800, li_900, li_1850, li_2000, li_2010, li_2040, li_2801, li_3300, li_4161, li_9999, li_10163, li_16500, li_16800, li_17100, li_18350, li_18510, li_18540, li_65536, li_100000, li_999999, li_1000000, li_2147483647, im_1, im_8, ll_0, ll_1, ll_2, ll_3, ll_4, ll_6, ll_16, ll_20, ll_40, ll_63, ll_800, ll_9999, jm_same, jm_ob, jm_ok, jm_il, jm_li, jm_lsame, jm_lob, jm_lok, Nat.reduceAdd, Nat.reduceMul, Nat.zero_add, Nat.add_zero, Nat.mul_zero, Nat.zero_mul, e_mw_isSmall, e_mw_isDigit, e_mw_isDigit0, e_mw_isGreat, e_xs_isSmall, e_xs_isFigure, e_xs_isGreat, e_mw_isLetter, e_xs_isLetter, e_isBlank, e_xs_isBlank, e_isFrom, e_isIn]
    refine hP v ⟨fun b k hs => hb b k (fun z => hs (by rw [z, o20]; unfold xsc; omega)), fun b k _ => hl b k, fun b k _ => hr b k⟩ hb hl hr hv
  · obtain ⟨hb, hl, hr, hv⟩ := hI
    have e1 : xi v q1 k = h (600 + k) := by rw [hb _ _ nq, v1 k hk]
    unfold xw0_wears_L8 xw0_wears_L8_S
    simp (disch := omega) only [k0, hr, p10, k2, pw, kw, pq1, kq1, e1, p24, k20, forall_eq, forall_eq', exists_eq_left, exists_eq_left', true_and, and_true, true_implies, false_implies, not_true_eq_false, not_false_eq_true, Prod.mk.injEq, Option.some.injEq, reduceCtorEq, and_self, implies_true, eq_self, Classical.not_not, and_false, false_and, ite_true, ite_false, reduceIte, bI_0, or_false, false_or, or_true, true_or, or_self, if_true, if_false, n_le_t, n_le_f, n_lt_t, n_lt_f, n_eq_t, n_eq_f, n_toInt, n_cl, n_vp, n_eqM, M_eqn, n_leM, n_ltM, M_len, M_ltn, M_add, n_sub, iM_toInt, x_lt_t, x_lt_f, x_le_t, x_le_f, lt_x_t, lt_x_f, le_x_t, le_x_f, x_eq_f, nI_add, pk_mul, bI_t, bI_f, Int32.toInt_toInt64, n_subI, x_add0, i_le_t, i_le_f, i_lt_t, i_lt_f, k_le_t, k_le_f, k_lt_t, k_lt_f, li_0, li_1, li_2, li_3, li_4, li_5, li_6, li_7, li_8, li_9, li_10, li_11, li_12, li_16, li_20, li_24, li_25, li_26, li_30, li_31, li_32, li_40, li_48, li_49, li_57, li_59, li_60, li_63, li_64, li_65, li_90, li_96, li_97, li_106, li_122, li_255, li_300, li_600, li_800, li_900, li_1850, li_2000, li_2010, li_2040, li_2801, li_3300, li_4161, li_9999, li_10163, li_16500, li_16800, li_17100, li_18350, li_18510, li_18540, li_65536, li_100000, li_999999, li_1000000, li_2147483647, im_1, im_8, ll_0, ll_1, ll_2, ll_3, ll_4, ll_6, ll_16, ll_20, ll_40, ll_63, ll_800, ll_9999, jm_same, jm_ob, jm_ok, jm_il, jm_li, jm_lsame, jm_lob, jm_lok, Nat.reduceAdd, Nat.reduceMul, Nat.zero_add, Nat.add_zero, Nat.mul_zero, Nat.zero_mul, e_mw_isSmall, e_mw_isDigit, e_mw_isDigit0, e_mw_isGreat, e_xs_isSmall, e_xs_isFigure, e_xs_isGreat, e_mw_isLetter, e_xs_isLetter, e_isBlank, e_xs_isBlank, e_isFrom, e_isIn]
    have hA : wrA h seed six (k + 1) = wrO h six k (wrA h seed six k) := rfl
    rw [hA] at ih
    generalize wrA h seed six k = s at ih hv ⊢
    have fin : ∀ t1 t2 t3, wrC h six k s = (t1, t2, t3) → xw0_wears_L8 P K (a 0) six f t1 t2 (nI (k + 1)) (xsi v (a 20) k t3) := fun t1 t2 t3 et => by
      have e : wrO h six k s = (t1, t2, up s.2.2 k t3) := by unfold wrO; rw [et]
      rw [e] at ih
      refine ih _ ⟨fun b q hb2 => by rw [← hb b q hb2]; simp [xi, xsi, hb2], fun b q => hl b q, fun b q => hr b q, fun j hj => ?_⟩
      show _ = up s.2.2 k t3 j
      by_cases z : j = k
      · subst z; rw [up_s]; exact xi_same
      · rw [up_n z, xi_ok z]; exact hv j (by omega)
    refine lp_it (L := fun f2 t d => xw0_wears_L47 (xw0_wears_L8 P K (a 0) six f) P K (a 0) six (nI k) f2 t.1 t.2.1 (nI d) (xsi v (a 20) k t.2.2)) (wrI (h (600 + k)) six) (s.1, s.2.1, h (600 + k)) 6 (fun f2 => ?_) (fun f2 d hd ih2 => ?_)
    · have f3 := fin _ _ _ (show wrC h six k s = ((it (wrI (h (600 + k)) six) (s.1, s.2.1, h (600 + k)) 6).1, (it (wrI (h (600 + k)) six) (s.1, s.2.1, h (600 + k)) 6).2.1, (it (wrI (h (600 + k)) six) (s.1, s.2.1, h (600 + k)) 6).2.2) from rfl)
      unfold xw0_wears_L47 xw0_wears_L47_S
      simp (disch := omega) only [forall_eq, forall_eq', exists_eq_left, exists_eq_left', true_and, and_true, true_implies, false_implies, not_true_eq_false, not_false_eq_true, Prod.mk.injEq, Option.some.injEq, reduceCtorEq, and_self, implies_true, eq_self, Classical.not_not, and_false, false_and, ite_true, ite_false, reduceIte, bI_0, or_false, false_or, or_true, true_or, or_self, if_true, if_false, n_le_t, n_le_f, n_lt_t, n_lt_f, n_eq_t, n_eq_f, n_toInt, n_cl, n_vp, n_eqM, M_eqn, n_leM, n_ltM, M_len, M_ltn, M_add, n_sub, iM_toInt, x_lt_t, x_lt_f, x_le_t, x_le_f, lt_x_t, lt_x_f, le_x_t, le_x_f, x_eq_f, nI_add, pk_mul, bI_t, bI_f, Int32.toInt_toInt64, n_subI, x_add0, i_le_t, i_le_f, i_lt_t, i_lt_f, k_le_t, k_le_f, k_lt_t, k_lt_f, li_0, li_1, li_2, li_3, li_4, li_5, li_6, li_7, li_8, li_9, li_10, li_11, li_12, li_16, li_20, li_24, li_25, li_26, li_30, li_31, li_32, li_40, li_48, li_49, li_57, li_59, li_60, li_63, li_64, li_65, li_90, li_96, li_97, li_106, li_122, li_255, li_300, li_600, li_800, li_900, li_1850, li_2000, li_2010, li_2040, li_2801, li_3300, li_4161, li_9999, li_10163, li_16500, li_16800, li_17100, li_18350, li_18510, li_18540, li_65536, li_100000, li_999999, li_1000000, li_2147483647, im_1, im_8, ll_0, ll_1, ll_2, ll_3, ll_4, ll_6, ll_16, ll_20, ll_40, ll_63, ll_800, ll_9999, jm_same, jm_ob, jm_ok, jm_il, jm_li, jm_lsame, jm_lob, jm_lok, Nat.reduceAdd, Nat.reduceMul, Nat.zero_add, Nat.add_zero, Nat.mul_zero, Nat.zero_mul, e_mw_isSmall, e_mw_isDigit, e_mw_isDigit0, e_mw_isGreat, e_xs_isSmall, e_xs_isFigure, e_xs_isGreat, e_mw_isLetter, e_xs_isLetter, e_isBlank, e_xs_isBlank, e_isFrom, e_isIn]
      exact f3
    · rw [it_s] at ih2
      generalize it (wrI (h (600 + k)) six) (s.1, s.2.1, h (600 + k)) d = t at ih2 ⊢
      obtain ⟨t1, t2, t3⟩ := t
      have e1' : xi (xsi v (a 20) k t3) q1 k = h (600 + k) := by rw [xi_oa ow (by omega), e1]
      have hr' : ∀ b j, xr (xsi v (a 20) k t3) b j = xr u b j := fun b j => hr b j
      have e20 : xi (xsi v (a 20) k t3) (a 20) k = t3 := xi_same
      unfold xw0_wears_L47 xw0_wears_L47_S
      by_cases b : wrB0 (h (600 + k)) d
      · rw [wrI_0 b] at ih2
        have b' : (h (600 + k) >>> (nI d &&& nI 31)) &&& nI 1 = nI 0 := b
        simp (disch := omega) only [k0, hr', p10, k2, pw, kw, pq1, kq1, e1', b', forall_eq, forall_eq', exists_eq_left, exists_eq_left', true_and, and_true, true_implies, false_implies, not_true_eq_false, not_false_eq_true, Prod.mk.injEq, Option.some.injEq, reduceCtorEq, and_self, implies_true, eq_self, Classical.not_not, and_false, false_and, ite_true, ite_false, reduceIte, bI_0, or_false, false_or, or_true, true_or, or_self, if_true, if_false, n_le_t, n_le_f, n_lt_t, n_lt_f, n_eq_t, n_eq_f, n_toInt, n_cl, n_vp, n_eqM, M_eqn, n_leM, n_ltM, M_len, M_ltn, M_add, n_sub, iM_toInt, x_lt_t, x_lt_f, x_le_t, x_le_f, lt_x_t, lt_x_f, le_x_t, le_x_f, x_eq_f, nI_add, pk_mul, bI_t, bI_f, Int32.toInt_toInt64, n_subI, x_add0, i_le_t, i_le_f, i_lt_t, i_lt_f, k_le_t, k_le_f, k_lt_t, k_lt_f, li_0, li_1, li_2, li_3, li_4, li_5, li_6, li_7, li_8, li_9, li_10, li_11, li_12, li_16, li_20, li_24, li_25, li_26, li_30, li_31, li_32, li_40, li_48, li_49, li_57, li_59, li_60, li_63, li_64, li_65, li_90, li_96, li_97, li_106, li_122, li_255, li_300, li_600, li_800, li_900, li_1850, li_2000, li_2010, li_2040, li_2801, li_3300, li_4161, li_9999, li_10163, li_16500, li_16800, li_17100, li_18350, li_18510, li_18540, li_65536, li_100000, li_999999, li_1000000, li_2147483647, im_1, im_8, ll_0, ll_1, ll_2, ll_3, ll_4, ll_6, ll_16, ll_20, ll_40, ll_63, ll_800, ll_9999, jm_same, jm_ob, jm_ok, jm_il, jm_li, jm_lsame, jm_lob, jm_lok, Nat.reduceAdd, Nat.reduceMul, Nat.zero_add, Nat.add_zero, Nat.mul_zero, Nat.zero_mul, e_mw_isSmall, e_mw_isDigit, e_mw_isDigit0, e_mw_isGreat, e_xs_isSmall, e_xs_isFigure, e_xs_isGreat, e_mw_isLetter, e_xs_isLetter, e_isBlank, e_xs_isBlank, e_isFrom, e_isIn]
        exact ih2
      · have b' : ¬ (h (600 + k) >>> (nI d &&& nI 31)) &&& nI 1 = nI 0 := b
        by_cases l : dwR (dwS t1) < six
        · rw [wrI_1 b l] at ih2
          have l' := l
          unfold dwR dwS at l'
          simp (disch := omega) only [k0, hr', p10, k2, pw, kw, pq1, kq1, e1', b', l', p24, k20, e20, xsi_xsi, forall_eq, forall_eq', exists_eq_left, exists_eq_left', true_and, and_true, true_implies, false_implies, not_true_eq_false, not_false_eq_true, Prod.mk.injEq, Option.some.injEq, reduceCtorEq, and_self, implies_true, eq_self, Classical.not_not, and_false, false_and, ite_true, ite_false, reduceIte, bI_0, or_false, false_or, or_true, true_or, or_self, if_true, if_false, n_le_t, n_le_f, n_lt_t, n_lt_f, n_eq_t, n_eq_f, n_toInt, n_cl, n_vp, n_eqM, M_eqn, n_leM, n_ltM, M_len, M_ltn, M_add, n_sub, iM_toInt, x_lt_t, x_lt_f, x_le_t, x_le_f, lt_x_t, lt_x_f, le_x_t, le_x_f, x_eq_f, nI_add, pk_mul, bI_t, bI_f, Int32.toInt_toInt64, n_subI, x_add0, i_le_t, i_le_f, i_lt_t, i_lt_f, k_le_t, k_le_f, k_lt_t, k_lt_f, li_0, li_1, li_2, li_3, li_4, li_5, li_6, li_7, li_8, li_9, li_10, li_11, li_12, li_16, li_20, li_24, li_25, li_26, li_30, li_31, li_32, li_40, li_48, li_49, li_57, li_59, li_60, li_63, li_64, li_65, li_90, li_96, li_97, li_106, li_122, li_255, li_300, li_600, li_800, li_900, li_1850, li_2000, li_2010, li_2040, li_2801, li_3300, li_4161, li_9999, li_10163, li_16500, li_16800, li_17100, li_18350, li_18510, li_18540, li_65536, li_100000, li_999999, li_1000000, li_2147483647, im_1, im_8, ll_0, ll_1, ll_2, ll_3, ll_4, ll_6, ll_16, ll_20, ll_40, ll_63, ll_800, ll_9999, jm_same, jm_ob, jm_ok, jm_il, jm_li, jm_lsame, jm_lob, jm_lok, Nat.reduceAdd, Nat.reduceMul, Nat.zero_add, Nat.add_zero, Nat.mul_zero, Nat.zero_mul, e_mw_isSmall, e_mw_isDigit, e_mw_isDigit0, e_mw_isGreat, e_xs_isSmall, e_xs_isFigure, e_xs_isGreat, e_mw_isLetter, e_xs_isLetter, e_isBlank, e_xs_isBlank, e_isFrom, e_isIn]
          exact ih2
        · rw [wrI_2 b l] at ih2
          have l' := l
          unfold dwR dwS at l'
          simp (disch := omega) only [k0, hr', p10, k2, pw, kw, pq1, kq1, e1', b', l', p24, k20, forall_eq, forall_eq', exists_eq_left, exists_eq_left', true_and, and_true, true_implies, false_implies, not_true_eq_false, not_false_eq_true, Prod.mk.injEq, Option.some.injEq, reduceCtorEq, and_self, implies_true, eq_self, Classical.not_not, and_false, false_and, ite_true, ite_false, reduceIte, bI_0, or_false, false_or, or_true, true_or, or_self, if_true, if_false, n_le_t, n_le_f, n_lt_t, n_lt_f, n_eq_t, n_eq_f, n_toInt, n_cl, n_vp, n_eqM, M_eqn, n_leM, n_ltM, M_len, M_ltn, M_add, n_sub, iM_toInt, x_lt_t, x_lt_f, x_le_t, x_le_f, lt_x_t, lt_x_f, le_x_t, le_x_f, x_eq_f, nI_add, pk_mul, bI_t, bI_f, Int32.toInt_toInt64, n_subI, x_add0, i_le_t, i_le_f, i_lt_t, i_lt_f, k_le_t, k_le_f, k_lt_t, k_lt_f, li_0, li_1, li_2, li_3, li_4, li_5, li_6, li_7, li_8, li_9, li_10, li_11, li_12, li_16, li_20, li_24, li_25, li_26, li_30, li_31, li_32, li_40, li_48, li_49, li_57, li_59, li_60, li_63, li_64, li_65, li_90, li_96, li_97, li_106, li_122, li_255, li_300, li_600, li_800, li_900, li_1850, li_2000, li_2010, li_2040, li_2801, li_3300, li_4161, li_9999, li_10163, li_16500, li_16800, li_17100, li_18350, li_18510, li_18540, li_65536, li_100000, li_999999, li_1000000, li_2147483647, im_1, im_8, ll_0, ll_1, ll_2, ll_3, ll_4, ll_6, ll_16, ll_20, ll_40, ll_63, ll_800, ll_9999, jm_same, jm_ob, jm_ok, jm_il, jm_li, jm_lsame, jm_lob, jm_lok, Nat.reduceAdd, Nat.reduceMul, Nat.zero_add, Nat.add_zero, Nat.mul_zero, Nat.zero_mul, e_mw_isSmall, e_mw_isDigit, e_mw_isDigit0, e_mw_isGreat, e_xs_isSmall, e_xs_isFigure, e_xs_isGreat, e_mw_isLetter, e_xs_isLetter, e_isBlank, e_xs_isBlank, e_isFrom, e_isIn]
          exact ih2
set_option maxHeartbeats 8000000 in
theorem m_wears {seed six : Int32} {P : Int32 → MS → Prop} (hv0 : ∀ k, k < 3300 → jm_i n 1 k = h k) (w8 : h 8 = nI (hN h 8)) (h8 : hN h 8 ≤ 1250)
    (hP : ∀ v, (∀ b k, ¬ (b = 0 ∧ k = 41) → b ≠ 21 → jm_i v b k = jm_i n b k) → (∀ b k, jm_l v b k = jm_l n b k) → (∀ k, k < hN h 8 → jm_i v 21 k = (wrA h seed six (hN h 8)).2.2 k) → P (wrA h seed six (hN h 8)).2.1 v) : mw_wears seed six n P := by
  unfold mw_wears
  simp (disch := omega) only [forall_eq, forall_eq', exists_eq_left, exists_eq_left', true_and, and_true, true_implies, false_implies, not_true_eq_false, not_false_eq_true, Prod.mk.injEq, Option.some.injEq, reduceCtorEq, and_self, implies_true, eq_self, Classical.not_not, and_false, false_and, ite_true, ite_false, reduceIte, bI_0, or_false, false_or, or_true, true_or, or_self, if_true, if_false, n_le_t, n_le_f, n_lt_t, n_lt_f, n_eq_t, n_eq_f, n_toInt, n_cl, n_vp, n_eqM, M_eqn, n_leM, n_ltM, M_len, M_ltn, M_add, n_sub, iM_toInt, x_lt_t, x_lt_f, x_le_t, x_le_f, lt_x_t, lt_x_f, le_x_t, le_x_f, x_eq_f, nI_add, pk_mul, bI_t, bI_f, Int32.toInt_toInt64, n_subI, x_add0, i_le_t, i_le_f, i_lt_t, i_lt_f, k_le_t, k_le_f, k_lt_t, k_lt_f, li_0, li_1, li_2, li_3, li_4, li_5, li_6, li_7, li_8, li_9, li_10, li_11, li_12, li_16, li_20, li_24, li_25, li_26, li_30, li_31, li_32, li_40, li_48, li_49, li_57, li_59, li_60, li_63, li_64, li_65, li_90, li_96, li_97, li_106, li_122, li_255, li_300, li_600, li_800, li_900, li_1850, li_2000, li_2010, li_2040, li_2801, li_3300, li_4161, li_9999, li_10163, li_16500, li_16800, li_17100, li_18350, li_18510, li_18540, li_65536, li_100000, li_999999, li_1000000, li_2147483647, im_1, im_8, ll_0, ll_1, ll_2, ll_3, ll_4, ll_6, ll_16, ll_20, ll_40, ll_63, ll_800, ll_9999, jm_same, jm_ob, jm_ok, jm_il, jm_li, jm_lsame, jm_lob, jm_lok, Nat.reduceAdd, Nat.reduceMul, Nat.zero_add, Nat.add_zero, Nat.mul_zero, Nat.zero_mul, e_mw_isSmall, e_mw_isDigit, e_mw_isDigit0, e_mw_isGreat, e_xs_isSmall, e_xs_isFigure, e_xs_isGreat, e_mw_isLetter, e_xs_isLetter, e_isBlank, e_xs_isBlank, e_isFrom, e_isIn]
  have key := lp_st (fun f k v => mw_wears_L10 P six f (wrA h seed six k).2.1 (nI k) v) (fun k v => (∀ b k, ¬ (b = 0 ∧ k = 41) → b ≠ 21 → jm_i v b k = jm_i n b k) ∧ (∀ b k, jm_l v b k = jm_l n b k) ∧ jm_i v 0 41 = (wrA h seed six k).1 ∧ ∀ j, j < k → jm_i v 21 j = (wrA h seed six k).2.2 j) (hN h 8) 0 (jm_s n 0 41 seed) (Nat.zero_le _)
    ⟨fun b k h1 h2 => by simp only [jm_i, jm_s, if_neg h1], fun _ _ => rfl, jm_same, fun j hj => by omega⟩ (fun f v hI => ?_) (fun f k v hk hI ih => ?_)
  · exact key
  · obtain ⟨hb, hl, hs, hv⟩ := hI
    have e8 : jm_i v 1 8 = nI (hN h 8) := by rw [hb _ _ (by omega) (by omega), hv0 _ (by omega), w8]
    unfold mw_wears_L10 mw_wears_L10_S
    simp (disch := omega) only [e8, forall_eq, forall_eq', exists_eq_left, exists_eq_left', true_and, and_true, true_implies, false_implies, not_true_eq_false, not_false_eq_true, Prod.mk.injEq, Option.some.injEq, reduceCtorEq, and_self, implies_true, eq_self, Classical.not_not, and_false, false_and, ite_true, ite_false, reduceIte, bI_0, or_false, false_or, or_true, true_or, or_self, if_true, if_false, n_le_t, n_le_f, n_lt_t, n_lt_f, n_eq_t, n_eq_f, n_toInt, n_cl, n_vp, n_eqM, M_eqn, n_leM, n_ltM, M_len, M_ltn, M_add, n_sub, iM_toInt, x_lt_t, x_lt_f, x_le_t, x_le_f, lt_x_t, lt_x_f, le_x_t, le_x_f, x_eq_f, nI_add, pk_mul, bI_t, bI_f, Int32.toInt_toInt64, n_subI, x_add0, i_le_t, i_le_f, i_lt_t, i_lt_f, k_le_t, k_le_f, k_lt_t, k_lt_f, li_0, li_1, li_2, li_3, li_4, li_5, li_6, li_7, li_8, li_9, li_10, li_11, li_12, li_16, li_20, li_24, li_25, li_26, li_30, li_31, li_32, li_40, li_48, li_49, li_57, li_59, li_60, li_63, li_64, li_65, li_90, li_96, li_97, li_106, li_122, li_255, li_300, li_600, li_800, li_900, li_1850, li_2000, li_2010, li_2040, li_2801, li_3300, li_4161, li_9999, li_10163, li_16500, li_16800, li_17100, li_18350, li_18510, li_18540, li_65536, li_100000, li_999999, li_1000000, li_2147483647, im_1, im_8, ll_0, ll_1, ll_2, ll_3, ll_4, ll_6, ll_16, ll_20, ll_40, ll_63, ll_800, ll_9999, jm_same, jm_ob, jm_ok, jm_il, jm_li, jm_lsame, jm_lob, jm_lok, Nat.reduceAdd, Nat.reduceMul, Nat.zero_add, Nat.add_zero, Nat.mul_zero, Nat.zero_mul, e_mw_isSmall, e_mw_isDigit, e_mw_isDigit0, e_mw_isGreat, e_xs_isSmall, e_xs_isFigure, e_xs_isGreat, e_mw_isLetter, e_xs_isLetter, e_isBlank, e_xs_isBlank, e_isFrom, e_isIn]
    exact hP v hb hl hv
  · obtain ⟨hb, hl, hs, hv⟩ := hI
    have e8 : jm_i v 1 8 = nI (hN h 8) := by rw [hb _ _ (by omega) (by omega), hv0 _ (by omega), w8]
    have e1 : jm_i v 1 (600 + k) = h (600 + k) := by rw [hb _ _ (by omega) (by omega), hv0 _ (by omega)]
    unfold mw_wears_L10 mw_wears_L10_S
    simp (disch := omega) only [e8, e1, forall_eq, forall_eq', exists_eq_left, exists_eq_left', true_and, and_true, true_implies, false_implies, not_true_eq_false, not_false_eq_true, Prod.mk.injEq, Option.some.injEq, reduceCtorEq, and_self, implies_true, eq_self, Classical.not_not, and_false, false_and, ite_true, ite_false, reduceIte, bI_0, or_false, false_or, or_true, true_or, or_self, if_true, if_false, n_le_t, n_le_f, n_lt_t, n_lt_f, n_eq_t, n_eq_f, n_toInt, n_cl, n_vp, n_eqM, M_eqn, n_leM, n_ltM, M_len, M_ltn, M_add, n_sub, iM_toInt, x_lt_t, x_lt_f, x_le_t, x_le_f, lt_x_t, lt_x_f, le_x_t, le_x_f, x_eq_f, nI_add, pk_mul, bI_t, bI_f, Int32.toInt_toInt64, n_subI, x_add0, i_le_t, i_le_f, i_lt_t, i_lt_f, k_le_t, k_le_f, k_lt_t, k_lt_f, li_0, li_1, li_2, li_3, li_4, li_5, li_6, li_7, li_8, li_9, li_10, li_11, li_12, li_16, li_20, li_24, li_25, li_26, li_30, li_31, li_32, li_40, li_48, li_49, li_57, li_59, li_60, li_63, li_64, li_65, li_90, li_96, li_97, li_106, li_122, li_255, li_300, li_600, li_800, li_900, li_1850, li_2000, li_2010, li_2040, li_2801, li_3300, li_4161, li_9999, li_10163, li_16500, li_16800, li_17100, li_18350, li_18510, li_18540, li_65536, li_100000, li_999999, li_1000000, li_2147483647, im_1, im_8, ll_0, ll_1, ll_2, ll_3, ll_4, ll_6, ll_16, ll_20, ll_40, ll_63, ll_800, ll_9999, jm_same, jm_ob, jm_ok, jm_il, jm_li, jm_lsame, jm_lob, jm_lok, Nat.reduceAdd, Nat.reduceMul, Nat.zero_add, Nat.add_zero, Nat.mul_zero, Nat.zero_mul, e_mw_isSmall, e_mw_isDigit, e_mw_isDigit0, e_mw_isGreat, e_xs_isSmall, e_xs_isFigure, e_xs_isGreat, e_mw_isLetter, e_xs_isLetter, e_isBlank, e_xs_isBlank, e_isFrom, e_isIn]
    have hA : wrA h seed six (k + 1) = wrO h six k (wrA h seed six k) := rfl
    rw [hA] at ih
    generalize wrA h seed six k = s at ih hs hv ⊢
    refine lp_st (fun f2 d v2 => mw_wears_L43 (mw_wears_L10 P six f) P six (nI k) f2 (it (wrI (h (600 + k)) six) (s.1, s.2.1, h (600 + k)) d).2.1 (nI d) v2) (fun d v2 => (∀ b q, ¬ (b = 0 ∧ q = 41) → ¬ (b = 21 ∧ q = k) → jm_i v2 b q = jm_i v b q) ∧ (∀ b q, jm_l v2 b q = jm_l n b q) ∧ jm_i v2 0 41 = (it (wrI (h (600 + k)) six) (s.1, s.2.1, h (600 + k)) d).1 ∧ jm_i v2 21 k = (it (wrI (h (600 + k)) six) (s.1, s.2.1, h (600 + k)) d).2.2) 6 0 _ (Nat.zero_le _)
      ⟨fun b q h1 h2 => by simp only [jm_i, jm_s, if_neg h2], fun b q => hl b q, by rw [jm_ob (by omega)]; exact hs, jm_same⟩ (fun f2 v2 hJ => ?_) (fun f2 d v2 hd hJ ih2 => ?_)
    · obtain ⟨z1, z2, z3, z4⟩ := hJ
      unfold mw_wears_L43 mw_wears_L43_S
      simp (disch := omega) only [forall_eq, forall_eq', exists_eq_left, exists_eq_left', true_and, and_true, true_implies, false_implies, not_true_eq_false, not_false_eq_true, Prod.mk.injEq, Option.some.injEq, reduceCtorEq, and_self, implies_true, eq_self, Classical.not_not, and_false, false_and, ite_true, ite_false, reduceIte, bI_0, or_false, false_or, or_true, true_or, or_self, if_true, if_false, n_le_t, n_le_f, n_lt_t, n_lt_f, n_eq_t, n_eq_f, n_toInt, n_cl, n_vp, n_eqM, M_eqn, n_leM, n_ltM, M_len, M_ltn, M_add, n_sub, iM_toInt, x_lt_t, x_lt_f, x_le_t, x_le_f, lt_x_t, lt_x_f, le_x_t, le_x_f, x_eq_f, nI_add, pk_mul, bI_t, bI_f, Int32.toInt_toInt64, n_subI, x_add0, i_le_t, i_le_f, i_lt_t, i_lt_f, k_le_t, k_le_f, k_lt_t, k_lt_f, li_0, li_1, li_2, li_3, li_4, li_5, li_6, li_7, li_8, li_9, li_10, li_11, li_12, li_16, li_20, li_24, li_25, li_26, li_30, li_31, li_32, li_40, li_48, li_49, li_57, li_59, li_60, li_63, li_64, li_65, li_90, li_96, li_97, li_106, li_122, li_255, li_300, li_600, li_800, li_900, li_1850, li_2000, li_2010, li_2040, li_2801, li_3300, li_4161, li_9999, li_10163, li_16500, li_16800, li_17100, li_18350, li_18510, li_18540, li_65536, li_100000, li_999999, li_1000000, li_2147483647, im_1, im_8, ll_0, ll_1, ll_2, ll_3, ll_4, ll_6, ll_16, ll_20, ll_40, ll_63, ll_800, ll_9999, jm_same, jm_ob, jm_ok, jm_il, jm_li, jm_lsame, jm_lob, jm_lok, Nat.reduceAdd, Nat.reduceMul, Nat.zero_add, Nat.add_zero, Nat.mul_zero, Nat.zero_mul, e_mw_isSmall, e_mw_isDigit, e_mw_isDigit0, e_mw_isGreat, e_xs_isSmall, e_xs_isFigure, e_xs_isGreat, e_mw_isLetter, e_xs_isLetter, e_isBlank, e_xs_isBlank, e_isFrom, e_isIn]
      refine ih v2 ⟨fun b q h1 h2 => by rw [z1 b q h1 (fun z => h2 z.1), hb b q h1 h2], z2, z3, fun j hj => ?_⟩
      show _ = up s.2.2 k (wrC h six k s).2.2 j
      by_cases z : j = k
      · subst z; rw [up_s]; exact z4
      · rw [up_n z, z1 _ _ (by omega) (by omega)]; exact hv j (by omega)
    · obtain ⟨z1, z2, z3, z4⟩ := hJ
      have f1 : jm_i v2 1 (600 + k) = h (600 + k) := by rw [z1 _ _ (by omega) (by omega), e1]
      rw [it_s] at ih2
      generalize it (wrI (h (600 + k)) six) (s.1, s.2.1, h (600 + k)) d = t at ih2 z3 z4 ⊢
      obtain ⟨t1, t2, t3⟩ := t
      have z3 : jm_i v2 0 41 = t1 := z3
      have z4 : jm_i v2 21 k = t3 := z4
      unfold mw_wears_L43 mw_wears_L43_S
      by_cases b : wrB0 (h (600 + k)) d
      · rw [wrI_0 b] at ih2
        have b' : (h (600 + k) >>> (nI d &&& nI 31)) &&& nI 1 = nI 0 := b
        have ih3 := ih2 v2 ⟨z1, z2, z3, z4⟩
        simp (disch := omega) only [f1, b', forall_eq, forall_eq', exists_eq_left, exists_eq_left', true_and, and_true, true_implies, false_implies, not_true_eq_false, not_false_eq_true, Prod.mk.injEq, Option.some.injEq, reduceCtorEq, and_self, implies_true, eq_self, Classical.not_not, and_false, false_and, ite_true, ite_false, reduceIte, bI_0, or_false, false_or, or_true, true_or, or_self, if_true, if_false, n_le_t, n_le_f, n_lt_t, n_lt_f, n_eq_t, n_eq_f, n_toInt, n_cl, n_vp, n_eqM, M_eqn, n_leM, n_ltM, M_len, M_ltn, M_add, n_sub, iM_toInt, x_lt_t, x_lt_f, x_le_t, x_le_f, lt_x_t, lt_x_f, le_x_t, le_x_f, x_eq_f, nI_add, pk_mul, bI_t, bI_f, Int32.toInt_toInt64, n_subI, x_add0, i_le_t, i_le_f, i_lt_t, i_lt_f, k_le_t, k_le_f, k_lt_t, k_lt_f, li_0, li_1, li_2, li_3, li_4, li_5, li_6, li_7, li_8, li_9, li_10, li_11, li_12, li_16, li_20, li_24, li_25, li_26, li_30, li_31, li_32, li_40, li_48, li_49, li_57, li_59, li_60, li_63, li_64, li_65, li_90, li_96, li_97, li_106, li_122, li_255, li_300, li_600, li_800, li_900, li_1850, li_2000, li_2010, li_2040, li_2801, li_3300, li_4161, li_9999, li_10163, li_16500, li_16800, li_17100, li_18350, li_18510, li_18540, li_65536, li_100000, li_999999, li_1000000, li_2147483647, im_1, im_8, ll_0, ll_1, ll_2, ll_3, ll_4, ll_6, ll_16, ll_20, ll_40, ll_63, ll_800, ll_9999, jm_same, jm_ob, jm_ok, jm_il, jm_li, jm_lsame, jm_lob, jm_lok, Nat.reduceAdd, Nat.reduceMul, Nat.zero_add, Nat.add_zero, Nat.mul_zero, Nat.zero_mul, e_mw_isSmall, e_mw_isDigit, e_mw_isDigit0, e_mw_isGreat, e_xs_isSmall, e_xs_isFigure, e_xs_isGreat, e_mw_isLetter, e_xs_isLetter, e_isBlank, e_xs_isBlank, e_isFrom, e_isIn]
        exact ih3
      · have b' : ¬ (h (600 + k) >>> (nI d &&& nI 31)) &&& nI 1 = nI 0 := b
        by_cases l : dwR (dwS t1) < six
        · rw [wrI_1 b l] at ih2
          have ih3 := ih2 (jm_s (jm_s v2 0 41 (dwS t1)) 21 k (t3 &&& wrM d)) ⟨fun b q h1 h2 => by rw [← z1 b q h1 h2]; simp only [jm_i, jm_s, if_neg h1, if_neg h2], fun b q => z2 b q, by rw [jm_ob (by omega), jm_same], jm_same⟩
          have l' := l
          unfold dwR dwS at l'
          unfold dwS wrM at ih3
          simp (disch := omega) only [f1, b', mw_draw, z3, z4, l', forall_eq, forall_eq', exists_eq_left, exists_eq_left', true_and, and_true, true_implies, false_implies, not_true_eq_false, not_false_eq_true, Prod.mk.injEq, Option.some.injEq, reduceCtorEq, and_self, implies_true, eq_self, Classical.not_not, and_false, false_and, ite_true, ite_false, reduceIte, bI_0, or_false, false_or, or_true, true_or, or_self, if_true, if_false, n_le_t, n_le_f, n_lt_t, n_lt_f, n_eq_t, n_eq_f, n_toInt, n_cl, n_vp, n_eqM, M_eqn, n_leM, n_ltM, M_len, M_ltn, M_add, n_sub, iM_toInt, x_lt_t, x_lt_f, x_le_t, x_le_f, lt_x_t, lt_x_f, le_x_t, le_x_f, x_eq_f, nI_add, pk_mul, bI_t, bI_f, Int32.toInt_toInt64, n_subI, x_add0, i_le_t, i_le_f, i_lt_t, i_lt_f, k_le_t, k_le_f, k_lt_t, k_lt_f, li_0, li_1, li_2, li_3, li_4, li_5, li_6, li_7, li_8, li_9, li_10, li_11, li_12, li_16, li_20, li_24, li_25, li_26, li_30, li_31, li_32, li_40, li_48, li_49, li_57, li_59, li_60, li_63, li_64, li_65, li_90, li_96, li_97, li_106, li_122, li_255, li_300, li_600, li_800, li_900, li_1850, li_2000, li_2010, li_2040, li_2801, li_3300, li_4161, li_9999, li_10163, li_16500, li_16800, li_17100, li_18350, li_18510, li_18540, li_65536, li_100000, li_999999, li_1000000, li_2147483647, im_1, im_8, ll_0, ll_1, ll_2, ll_3, ll_4, ll_6, ll_16, ll_20, ll_40, ll_63, ll_800, ll_9999, jm_same, jm_ob, jm_ok, jm_il, jm_li, jm_lsame, jm_lob, jm_lok, Nat.reduceAdd, Nat.reduceMul, Nat.zero_add, Nat.add_zero, Nat.mul_zero, Nat.zero_mul, e_mw_isSmall, e_mw_isDigit, e_mw_isDigit0, e_mw_isGreat, e_xs_isSmall, e_xs_isFigure, e_xs_isGreat, e_mw_isLetter, e_xs_isLetter, e_isBlank, e_xs_isBlank, e_isFrom, e_isIn]
          exact ih3
        · rw [wrI_2 b l] at ih2
          have ih3 := ih2 (jm_s v2 0 41 (dwS t1)) ⟨fun b q h1 h2 => by rw [← z1 b q h1 h2]; simp only [jm_i, jm_s, if_neg h1], fun b q => z2 b q, jm_same, by rw [jm_ob (by omega)]; exact z4⟩
          have l' := l
          unfold dwR dwS at l'
          unfold dwS at ih3
          simp (disch := omega) only [f1, b', mw_draw, z3, z4, l', forall_eq, forall_eq', exists_eq_left, exists_eq_left', true_and, and_true, true_implies, false_implies, not_true_eq_false, not_false_eq_true, Prod.mk.injEq, Option.some.injEq, reduceCtorEq, and_self, implies_true, eq_self, Classical.not_not, and_false, false_and, ite_true, ite_false, reduceIte, bI_0, or_false, false_or, or_true, true_or, or_self, if_true, if_false, n_le_t, n_le_f, n_lt_t, n_lt_f, n_eq_t, n_eq_f, n_toInt, n_cl, n_vp, n_eqM, M_eqn, n_leM, n_ltM, M_len, M_ltn, M_add, n_sub, iM_toInt, x_lt_t, x_lt_f, x_le_t, x_le_f, lt_x_t, lt_x_f, le_x_t, le_x_f, x_eq_f, nI_add, pk_mul, bI_t, bI_f, Int32.toInt_toInt64, n_subI, x_add0, i_le_t, i_le_f, i_lt_t, i_lt_f, k_le_t, k_le_f, k_lt_t, k_lt_f, li_0, li_1, li_2, li_3, li_4, li_5, li_6, li_7, li_8, li_9, li_10, li_11, li_12, li_16, li_20, li_24, li_25, li_26, li_30, li_31, li_32, li_40, li_48, li_49, li_57, li_59, li_60, li_63, li_64, li_65, li_90, li_96, li_97, li_106, li_122, li_255, li_300, li_600, li_800, li_900, li_1850, li_2000, li_2010, li_2040, li_2801, li_3300, li_4161, li_9999, li_10163, li_16500, li_16800, li_17100, li_18350, li_18510, li_18540, li_65536, li_100000, li_999999, li_1000000, li_2147483647, im_1, im_8, ll_0, ll_1, ll_2, ll_3, ll_4, ll_6, ll_16, ll_20, ll_40, ll_63, ll_800, ll_9999, jm_same, jm_ob, jm_ok, jm_il, jm_li, jm_lsame, jm_lob, jm_lok, Nat.reduceAdd, Nat.reduceMul, Nat.zero_add, Nat.add_zero, Nat.mul_zero, Nat.zero_mul, e_mw_isSmall, e_mw_isDigit, e_mw_isDigit0, e_mw_isGreat, e_xs_isSmall, e_xs_isFigure, e_xs_isGreat, e_mw_isLetter, e_xs_isLetter, e_isBlank, e_xs_isBlank, e_isFrom, e_isIn]
          exact ih3
end XCH
