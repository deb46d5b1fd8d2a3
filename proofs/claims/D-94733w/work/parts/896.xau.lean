/-! PLAIN LAW: trays: one is found, read, written -/
set_option linter.unusedVariables false
theorem vp_out {x : Int32} {n : Nat} (h : x.toInt < 0 ∨ (n : Int) ≤ x.toInt) : vp_in x n = False := by
  refine eq_false (fun z => z ?_)
  rcases h with h | h
  · exact Or.inl (by rw [Int32.lt_iff_toInt_lt]; exact h)
  · exact Or.inr (by show n ≤ x.toInt.toNat; omega)
theorem vp_j {x : Int32} {n : Nat} (h : vp_in x n) : ∃ j, j < n ∧ x = nI j := by
  rcases pl_ix x n with q | q | q
  · rw [vp_out (Or.inl q)] at h; exact h.elim
  · rw [vp_out (Or.inr q)] at h; exact h.elim
  · exact q
def STl (a : Nat → Nat) (m : MS) (X : Nat → Nat → (Int64 → XK → XS → Prop) → Prop) (M : MS → (Int64 → MS → Prop) → Prop) : Prop :=
  ∀ mc ms (P : Int64 → XK → XS → Prop), 9000 ≤ mc → 110000 ≤ ms → (∀ r K2 v, (∀ Q : Int64 → MS → Prop, (∀ ow2 n, Rep a K2 ow2 v n → Q r n) → M m Q) → P r K2 v) → X mc ms P
section XBU
variable {a : Nat → Nat} {K : XK} {ow : Nat → Nat} {u v : XS} {m n : MS}
theorem jx_t {q t n : Nat} (h : K q = (t + 2, n)) : jx_is K q t = 1 := by unfold jx_is; rw [h]; exact if_pos rfl
theorem jx_f {q s t n : Nat} (h : K q = (s + 2, n)) (hne : s ≠ t) : jx_is K q t = 0 := by
  unfold jx_is; rw [h]; exact if_neg (by show ¬ s + 2 = t + 2; omega)
theorem rSta.tr (hS : rSta a K ow u) {i : Nat} (hi : i < 4) : xr u (a 5) i = some (a (6 + i)) ∧ K (a (6 + i)) = (1, 1) := by
  obtain ⟨⟨_, _, _, _, _, _, k6, k7, k8, k9, _⟩, _, _, ⟨t0, t1, t2, t3⟩⟩ := hS
  have : i = 0 ∨ i = 1 ∨ i = 2 ∨ i = 3 := by omega
  rcases this with e | e | e | e <;> subst e
  · exact ⟨t0, k6⟩
  · exact ⟨t1, k7⟩
  · exact ⟨t2, k8⟩
  · exact ⟨t3, k9⟩
/-- a refusal -/
theorem x_want0 {w : Int32} {mc ms : Nat} {P : XK → XS → Prop} {PX : Nat → XK → XS → Prop} (k0 : K (a 0) = (1, 0)) (p6 : xr u (a 0) 6 = some (a 12)) (k12 : K (a 12) = (1, 3)) (hP : PX (a 12) K (xsi u (a 12) 6 w)) : xw0_want (a 0) (0 : Int32) w K u mc ms P PX := by
  unfold xw0_want xw3_by
  refine ⟨fun z => absurd rfl z, fun _ => ⟨k0, a 12, p6, k12, k12, fun u2 e2 => ?_⟩⟩
  subst e2
  exact ⟨k12, hP⟩
theorem x_want1 {w x : Int32} {mc ms : Nat} {P : XK → XS → Prop} {PX : Nat → XK → XS → Prop} (hx : ¬ x = 0) (hP : P K u) : xw0_want (a 0) x w K u mc ms P PX := by
  unfold xw0_want
  exact ⟨fun _ => hP, fun z => absurd z hx⟩
theorem x_no {w : Int32} {P : Int32 → XS → Prop} (k0 : K (a 0) = (1, 0)) (k12 : K (a 12) = (1, 3)) (hP : P (nI 0) (xsi (xsi u (a 12) 6 w) (a 0) 7 w)) : xw0_no (a 0) (a 12) K (xsi u (a 12) 6 w) P := by
  unfold xw0_no
  refine ⟨k12, k0, fun u5 e5 => ?_⟩
  rw [xi_same] at e5
  subst e5
  exact hP
theorem x_none {w : Int32} {P : Int32 → XS → Prop} (k0 : K (a 0) = (1, 0)) (k12 : K (a 12) = (1, 3)) (hP : P iM (xsi (xsi u (a 12) 6 w) (a 0) 7 w)) : xw0_none (a 0) (a 12) K (xsi u (a 12) 6 w) P := by
  unfold xw0_none
  refine ⟨k12, k0, fun u5 e5 => ?_⟩
  rw [xi_same] at e5
  subst e5
  exact hP
theorem Rep.ref (hR : Rep a K ow u m) (z w : Int32) : Rep a K ow (xsi (xsi (xsi u (a 0) 7 z) (a 12) 6 w) (a 0) 7 w) (jm_s m 0 1 w) := by
  have o12 : ow (a 12) = 12 := hR.1.2.1 12 (by omega)
  exact hR.q (QM.s QM.refl (by unfold scr; omega)) (QX.st ((QX.st QX.refl).s (by rw [o12]; unfold xsc; omega))) (by rw [xi_same, jm_same])
set_option maxHeartbeats 4000000 in
theorem x_on {x : Int32} {mc ms : Nat} {P : Nat → XK → XS → Prop} {PX : Nat → XK → XS → Prop} (hS : rSta a K ow u) (hbad : (x.toInt < 0 ∨ 4 ≤ x.toInt) → PX (a 12) K (xsi u (a 12) 6 (nI 1))) (hnone : ∀ i, i < 4 → x = nI i → xr u (a (6 + i)) 0 = none → PX (a 12) K (xsi u (a 12) 6 (nI 2))) (hsome : ∀ i q, i < 4 → x = nI i → xr u (a (6 + i)) 0 = some q → P q K u) : xw0_on (a 0) x K u mc ms P PX := by
  have k0 := hS.1.1
  have p0 : xr u (a 0) 0 = some (a 5) := hS.2.2.1.1
  have p6 : xr u (a 0) 6 = some (a 12) := hS.2.2.1.2.2.2.1
  have k5 : K (a 5) = (9, 4) := hS.1.2.2.2.2.2.1
  have k12 : K (a 12) = (1, 3) := hS.1.2.2.2.2.2.2.2.2.2.2.2.2.1
  have h0 : (x.toInt < 0 ∨ 4 ≤ x.toInt) → xw0_on_B15 P PX mc ms (a 0) x (0 : Int32) (a 0) K u 0 0 := fun hx => by
    unfold xw0_on_B15
    exact ⟨k0, 0, 0, by omega, by omega, x_want0 k0 p6 k12 (hbad hx)⟩
  rcases pl_ix x 4 with hx | hx | ⟨i, hi, rfl⟩
  · simp (disch := omega) only [xw0_on, forall_eq, forall_eq', exists_eq_left, exists_eq_left', true_and, and_true, true_implies, false_implies, not_true_eq_false, not_false_eq_true, Prod.mk.injEq, Option.some.injEq, reduceCtorEq, and_self, implies_true, eq_self, Classical.not_not, and_false, false_and, ite_true, ite_false, reduceIte, bI_0, or_false, false_or, or_true, true_or, or_self, if_true, if_false, n_le_t, n_le_f, n_lt_t, n_lt_f, n_eq_t, n_eq_f, n_toInt, n_cl, n_vp, n_eqM, M_eqn, n_leM, n_ltM, M_len, M_ltn, M_add, n_sub, iM_toInt, x_lt_t, x_lt_f, x_le_t, x_le_f, lt_x_t, lt_x_f, le_x_t, le_x_f, x_eq_f, nI_add, pk_mul, bI_t, bI_f, Int32.toInt_toInt64, n_subI, x_add0, i_le_t, i_le_f, i_lt_t, i_lt_f, k_le_t, k_le_f, k_lt_t, k_lt_f, li_0, li_1, li_2, li_3, li_4, li_5, li_6, li_7, li_8, li_9, li_10, li_11, li_12, li_16, li_20, li_24, li_25, li_26, li_30, li_31, li_32, li_40, li_48, li_49, li_57, li_59, li_60, li_63, li_64, li_65, li_90, li_96, li_97, li_106, li_122, li_255, li_300, li_600, li_800, li_900, li_1850, li_2000, li_2010, li_2040, li_2801, li_3300, li_4161, li_9999, li_10163, li_16500, li_16800, li_17100, li_18350, li_18510, li_18540, li_65536, li_100000, li_999999, li_1000000, li_2147483647, im_1, im_8, ll_0, ll_1, ll_2, ll_3, ll_4, ll_6, ll_16, ll_20, ll_40, ll_63, ll_800, ll_9999, jm_same, jm_ob, jm_ok, jm_il, jm_li, jm_lsame, jm_lob, jm_lok, Nat.reduceAdd, Nat.reduceMul, Nat.zero_add, Nat.add_zero, Nat.mul_zero, Nat.zero_mul, e_mw_isSmall, e_mw_isDigit, e_mw_isDigit0, e_mw_isGreat, e_xs_isSmall, e_xs_isFigure, e_xs_isGreat, e_mw_isLetter, e_xs_isLetter, e_isBlank, e_xs_isBlank, e_isFrom, e_isIn]
    exact h0 (Or.inl hx)
  · simp (disch := omega) only [xw0_on, forall_eq, forall_eq', exists_eq_left, exists_eq_left', true_and, and_true, true_implies, false_implies, not_true_eq_false, not_false_eq_true, Prod.mk.injEq, Option.some.injEq, reduceCtorEq, and_self, implies_true, eq_self, Classical.not_not, and_false, false_and, ite_true, ite_false, reduceIte, bI_0, or_false, false_or, or_true, true_or, or_self, if_true, if_false, n_le_t, n_le_f, n_lt_t, n_lt_f, n_eq_t, n_eq_f, n_toInt, n_cl, n_vp, n_eqM, M_eqn, n_leM, n_ltM, M_len, M_ltn, M_add, n_sub, iM_toInt, x_lt_t, x_lt_f, x_le_t, x_le_f, lt_x_t, lt_x_f, le_x_t, le_x_f, x_eq_f, nI_add, pk_mul, bI_t, bI_f, Int32.toInt_toInt64, n_subI, x_add0, i_le_t, i_le_f, i_lt_t, i_lt_f, k_le_t, k_le_f, k_lt_t, k_lt_f, li_0, li_1, li_2, li_3, li_4, li_5, li_6, li_7, li_8, li_9, li_10, li_11, li_12, li_16, li_20, li_24, li_25, li_26, li_30, li_31, li_32, li_40, li_48, li_49, li_57, li_59, li_60, li_63, li_64, li_65, li_90, li_96, li_97, li_106, li_122, li_255, li_300, li_600, li_800, li_900, li_1850, li_2000, li_2010, li_2040, li_2801, li_3300, li_4161, li_9999, li_10163, li_16500, li_16800, li_17100, li_18350, li_18510, li_18540, li_65536, li_100000, li_999999, li_1000000, li_2147483647, im_1, im_8, ll_0, ll_1, ll_2, ll_3, ll_4, ll_6, ll_16, ll_20, ll_40, ll_63, ll_800, ll_9999, jm_same, jm_ob, jm_ok, jm_il, jm_li, jm_lsame, jm_lob, jm_lok, Nat.reduceAdd, Nat.reduceMul, Nat.zero_add, Nat.add_zero, Nat.mul_zero, Nat.zero_mul, e_mw_isSmall, e_mw_isDigit, e_mw_isDigit0, e_mw_isGreat, e_xs_isSmall, e_xs_isFigure, e_xs_isGreat, e_mw_isLetter, e_xs_isLetter, e_isBlank, e_xs_isBlank, e_isFrom, e_isIn]
    exact h0 (Or.inr hx)
  · obtain ⟨ti, ki⟩ := hS.tr hi
    simp (disch := omega) only [xw0_on, forall_eq, forall_eq', exists_eq_left, exists_eq_left', true_and, and_true, true_implies, false_implies, not_true_eq_false, not_false_eq_true, Prod.mk.injEq, Option.some.injEq, reduceCtorEq, and_self, implies_true, eq_self, Classical.not_not, and_false, false_and, ite_true, ite_false, reduceIte, bI_0, or_false, false_or, or_true, true_or, or_self, if_true, if_false, n_le_t, n_le_f, n_lt_t, n_lt_f, n_eq_t, n_eq_f, n_toInt, n_cl, n_vp, n_eqM, M_eqn, n_leM, n_ltM, M_len, M_ltn, M_add, n_sub, iM_toInt, x_lt_t, x_lt_f, x_le_t, x_le_f, lt_x_t, lt_x_f, le_x_t, le_x_f, x_eq_f, nI_add, pk_mul, bI_t, bI_f, Int32.toInt_toInt64, n_subI, x_add0, i_le_t, i_le_f, i_lt_t, i_lt_f, k_le_t, k_le_f, k_lt_t, k_lt_f, li_0, li_1, li_2, li_3, li_4, li_5, li_6, li_7, li_8, li_9, li_10, li_11, li_12, li_16, li_20, li_24, li_25, li_26, li_30, li_31, li_32, li_40, li_48, li_49, li_57, li_59, li_60, li_63, li_64, li_65, li_90, li_96, li_97, li_106, li_122, li_255, li_300, li_600, li_800, li_900, li_1850, li_2000, li_2010, li_2040, li_2801, li_3300, li_4161, li_9999, li_10163, li_16500, li_16800, li_17100, li_18350, li_18510, li_18540, li_65536, li_100000, li_999999, li_1000000, li_2147483647, im_1, im_8, ll_0, ll_1, ll_2, ll_3, ll_4, ll_6, ll_16, ll_20, ll_40, ll_63, ll_800, ll_9999, jm_same, jm_ob, jm_ok, jm_il, jm_li, jm_lsame, jm_lob, jm_lok, Nat.reduceAdd, Nat.reduceMul, Nat.zero_add, Nat.add_zero, Nat.mul_zero, Nat.zero_mul, e_mw_isSmall, e_mw_isDigit, e_mw_isDigit0, e_mw_isGreat, e_xs_isSmall, e_xs_isFigure, e_xs_isGreat, e_mw_isLetter, e_xs_isLetter, e_isBlank, e_xs_isBlank, e_isFrom, e_isIn]
    unfold xw0_on_B15
    refine ⟨k0, 0, 0, by omega, by omega, x_want1 (by decide) ⟨k0, a 5, p0, 4, k5, vp_in_nI hi (by omega), a (6 + i), by rw [n_cl (by omega)]; exact ti, ki, fun z => ?_, fun z => ?_⟩⟩
    · exact ⟨0, 0, by omega, by omega, x_want0 k0 p6 k12 (hnone i hi rfl z)⟩
    · cases hq : xr u (a (6 + i)) 0 with
      | none => exact absurd hq z
      | some q =>
        refine ⟨0, 0, by omega, by omega, x_want1 (by decide) ⟨a 5, p0, 4, k5, vp_in_nI hi (by omega), a (6 + i), by rw [n_cl (by omega)]; exact ti, ki, q, hq, hsome i q hi rfl hq⟩⟩
/-- a number of a row -/
def xNum (u : XS) (q s j : Nat) : Int64 := if s = 3 then xl u q j else (xi u q j).toInt64
theorem x_num {q n s mc ms : Nat} {y : Int32} {P : Int64 → XK → XS → Prop} {PX : Nat → XK → XS → Prop} (hs : s < 4) (kq : K q = (s + 2, n)) (hn : n ≤ 60) (hP : ∀ j, j < n → y = nI j → P (xNum u q s j) K u) (hX : ¬ vp_in y n → 3 ≤ mc ∧ 222 ≤ ms ∧ ∀ p, PX p K u) : xw0_number q y K u mc ms P PX := by
  have hT : xTray K q := ⟨s, n, hs, kq⟩
  have key : ∀ (hv : vp_in y n) (e : ∀ j, j < n → y = nI j → xNum u q s j = (xi u q y.toNatClampNeg).toInt64), P (xi u q y.toNatClampNeg).toInt64 K u := fun hv e => by
    obtain ⟨j, hj, ej⟩ := vp_j hv
    rw [← e j hj ej]; exact hP j hj ej
  have hs4 : s = 0 ∨ s = 1 ∨ s = 2 ∨ s = 3 := by omega
  unfold xw0_number
  rcases hs4 with e | e | e | e <;> subst e
  · refine ⟨hT, fun v1 e1 => ⟨fun _ => ⟨hT, by rw [kq]; show 0 + 2 ≠ 3; omega, fun v2 e2 => ⟨fun _ => ⟨hT, ⟨by rw [kq]; show 0 + 2 ≠ 3; omega, by rw [kq]; show 0 + 2 ≠ 4; omega⟩, fun v3 e3 => ⟨fun z => ?_, fun _ => ⟨n, kq, fun hv => key hv (fun j hj ej => by rw [ej, n_cl (by omega)]; rfl), fun hv => ⟨by omega, hX hv⟩⟩⟩⟩, fun z => ?_⟩⟩, fun z => ?_⟩⟩
    · rw [e3, jx_t kq] at z; exact absurd z (by decide)
    · rw [e2, jx_f kq (by omega)] at z; exact absurd rfl z
    · rw [e1, jx_f kq (by omega)] at z; exact absurd rfl z
  · refine ⟨hT, fun v1 e1 => ⟨fun z => ?_, fun _ => ⟨n, kq, fun hv => key hv (fun j hj ej => by rw [ej, n_cl (by omega)]; rfl), fun hv => ⟨by omega, hX hv⟩⟩⟩⟩
    rw [e1, jx_t kq] at z; exact absurd z (by decide)
  · refine ⟨hT, fun v1 e1 => ⟨fun _ => ⟨hT, by rw [kq]; show 2 + 2 ≠ 3; omega, fun v2 e2 => ⟨fun z => ?_, fun _ => ⟨n, kq, fun hv => key hv (fun j hj ej => by rw [ej, n_cl (by omega)]; rfl), fun hv => ⟨by omega, hX hv⟩⟩⟩⟩, fun z => ?_⟩⟩
    · rw [e2, jx_t kq] at z; exact absurd z (by decide)
    · rw [e1, jx_f kq (by omega)] at z; exact absurd rfl z
  · refine ⟨hT, fun v1 e1 => ⟨fun _ => ⟨hT, by rw [kq]; show 3 + 2 ≠ 3; omega, fun v2 e2 => ⟨fun _ => ⟨hT, ⟨by rw [kq]; show 3 + 2 ≠ 3; omega, by rw [kq]; show 3 + 2 ≠ 4; omega⟩, fun v3 e3 => ⟨fun _ => ⟨n, kq, fun hv => ?_, fun hv => ⟨by omega, hX hv⟩⟩, fun z => ?_⟩⟩, fun z => ?_⟩⟩, fun z => ?_⟩⟩
    · obtain ⟨j, hj, ej⟩ := vp_j hv
      have := hP j hj ej
      rw [ej, n_cl (by omega)]
      exact this
    · rw [e3, jx_f kq (by omega)] at z; exact absurd rfl z
    · rw [e2, jx_f kq (by omega)] at z; exact absurd rfl z
    · rw [e1, jx_f kq (by omega)] at z; exact absurd rfl z
theorem rTray.sm {i q : Nat} (h : rTray K ow u m (a (6 + i)) i) (hq : xr u (a (6 + i)) 0 = some q) : ∃ n s, s < 4 ∧ ow q = 60 + i ∧ K q = (s + 2, n) ∧ n ≤ 60 ∧ jm_i m 3 i = nI n ∧ jm_i m 2 i = nI (if s = 1 then 0 else if s = 2 then 1 else if s = 0 then 2 else 3) ∧ ∀ k, k < n → jm_l m 4 (60 * i + k) = xNum u q s k := by
  rcases h with ⟨_, h2⟩ | ⟨q2, n, s, h1, h2, h3, h4, h5, h6⟩
  · rw [hq] at h2; simp at h2
  · rw [hq] at h1
    injection h1 with h1
    subst h1
    rcases h6 with ⟨rfl, e, f⟩ | ⟨rfl, e, f⟩ | ⟨rfl, e, f⟩ | ⟨rfl, e, f⟩
    · exact ⟨n, 1, by omega, h2, h3, h4, h5, e, f⟩
    · exact ⟨n, 2, by omega, h2, h3, h4, h5, e, f⟩
    · exact ⟨n, 0, by omega, h2, h3, h4, h5, e, f⟩
    · exact ⟨n, 3, by omega, h2, h3, h4, h5, e, f⟩
theorem rTray.nn {i : Nat} (h : rTray K ow u m (a (6 + i)) i) (hq : xr u (a (6 + i)) 0 = Option.none) : jm_i m 3 i = iM := by
  rcases h with ⟨h1, _⟩ | ⟨q2, n, s, h1, _⟩
  · exact h1
  · rw [hq] at h1; simp at h1
/-- the reference: a wrong place -/
theorem m_wrong1 {x y : Int32} {P : Int32 → MS → Prop} (hx : x.toInt < 0 ∨ 4 ≤ x.toInt) (hP : P (nI 1) m) : mw_wrongPlace x y m P := by
  rcases hx with hx | hx
  · simp (disch := omega) only [mw_wrongPlace, mw_isTray, forall_eq, forall_eq', exists_eq_left, exists_eq_left', true_and, and_true, true_implies, false_implies, not_true_eq_false, not_false_eq_true, Prod.mk.injEq, Option.some.injEq, reduceCtorEq, and_self, implies_true, eq_self, Classical.not_not, and_false, false_and, ite_true, ite_false, reduceIte, bI_0, or_false, false_or, or_true, true_or, or_self, if_true, if_false, n_le_t, n_le_f, n_lt_t, n_lt_f, n_eq_t, n_eq_f, n_toInt, n_cl, n_vp, n_eqM, M_eqn, n_leM, n_ltM, M_len, M_ltn, M_add, n_sub, iM_toInt, x_lt_t, x_lt_f, x_le_t, x_le_f, lt_x_t, lt_x_f, le_x_t, le_x_f, x_eq_f, nI_add, pk_mul, bI_t, bI_f, Int32.toInt_toInt64, n_subI, x_add0, i_le_t, i_le_f, i_lt_t, i_lt_f, k_le_t, k_le_f, k_lt_t, k_lt_f, li_0, li_1, li_2, li_3, li_4, li_5, li_6, li_7, li_8, li_9, li_10, li_11, li_12, li_16, li_20, li_24, li_25, li_26, li_30, li_31, li_32, li_40, li_48, li_49, li_57, li_59, li_60, li_63, li_64, li_65, li_90, li_96, li_97, li_106, li_122, li_255, li_300, li_600, li_800, li_900, li_1850, li_2000, li_2010, li_2040, li_2801, li_3300, li_4161, li_9999, li_10163, li_16500, li_16800, li_17100, li_18350, li_18510, li_18540, li_65536, li_100000, li_999999, li_1000000, li_2147483647, im_1, im_8, ll_0, ll_1, ll_2, ll_3, ll_4, ll_6, ll_16, ll_20, ll_40, ll_63, ll_800, ll_9999, jm_same, jm_ob, jm_ok, jm_il, jm_li, jm_lsame, jm_lob, jm_lok, Nat.reduceAdd, Nat.reduceMul, Nat.zero_add, Nat.add_zero, Nat.mul_zero, Nat.zero_mul, e_mw_isSmall, e_mw_isDigit, e_mw_isDigit0, e_mw_isGreat, e_xs_isSmall, e_xs_isFigure, e_xs_isGreat, e_mw_isLetter, e_xs_isLetter, e_isBlank, e_xs_isBlank, e_isFrom, e_isIn]
    exact hP
  · simp (disch := omega) only [mw_wrongPlace, mw_isTray, forall_eq, forall_eq', exists_eq_left, exists_eq_left', true_and, and_true, true_implies, false_implies, not_true_eq_false, not_false_eq_true, Prod.mk.injEq, Option.some.injEq, reduceCtorEq, and_self, implies_true, eq_self, Classical.not_not, and_false, false_and, ite_true, ite_false, reduceIte, bI_0, or_false, false_or, or_true, true_or, or_self, if_true, if_false, n_le_t, n_le_f, n_lt_t, n_lt_f, n_eq_t, n_eq_f, n_toInt, n_cl, n_vp, n_eqM, M_eqn, n_leM, n_ltM, M_len, M_ltn, M_add, n_sub, iM_toInt, x_lt_t, x_lt_f, x_le_t, x_le_f, lt_x_t, lt_x_f, le_x_t, le_x_f, x_eq_f, nI_add, pk_mul, bI_t, bI_f, Int32.toInt_toInt64, n_subI, x_add0, i_le_t, i_le_f, i_lt_t, i_lt_f, k_le_t, k_le_f, k_lt_t, k_lt_f, li_0, li_1, li_2, li_3, li_4, li_5, li_6, li_7, li_8, li_9, li_10, li_11, li_12, li_16, li_20, li_24, li_25, li_26, li_30, li_31, li_32, li_40, li_48, li_49, li_57, li_59, li_60, li_63, li_64, li_65, li_90, li_96, li_97, li_106, li_122, li_255, li_300, li_600, li_800, li_900, li_1850, li_2000, li_2010, li_2040, li_2801, li_3300, li_4161, li_9999, li_10163, li_16500, li_16800, li_17100, li_18350, li_18510, li_18540, li_65536, li_100000, li_999999, li_1000000, li_2147483647, im_1, im_8, ll_0, ll_1, ll_2, ll_3, ll_4, ll_6, ll_16, ll_20, ll_40, ll_63, ll_800, ll_9999, jm_same, jm_ob, jm_ok, jm_il, jm_li, jm_lsame, jm_lob, jm_lok, Nat.reduceAdd, Nat.reduceMul, Nat.zero_add, Nat.add_zero, Nat.mul_zero, Nat.zero_mul, e_mw_isSmall, e_mw_isDigit, e_mw_isDigit0, e_mw_isGreat, e_xs_isSmall, e_xs_isFigure, e_xs_isGreat, e_mw_isLetter, e_xs_isLetter, e_isBlank, e_xs_isBlank, e_isFrom, e_isIn]
    exact hP
theorem m_wrong2 {i : Nat} {y : Int32} {P : Int32 → MS → Prop} (hi : i < 4) (h3 : jm_i m 3 i = iM) (hP : P (nI 2) m) : mw_wrongPlace (nI i) y m P := by
  simp (disch := omega) only [mw_wrongPlace, mw_isTray, h3, forall_eq, forall_eq', exists_eq_left, exists_eq_left', true_and, and_true, true_implies, false_implies, not_true_eq_false, not_false_eq_true, Prod.mk.injEq, Option.some.injEq, reduceCtorEq, and_self, implies_true, eq_self, Classical.not_not, and_false, false_and, ite_true, ite_false, reduceIte, bI_0, or_false, false_or, or_true, true_or, or_self, if_true, if_false, n_le_t, n_le_f, n_lt_t, n_lt_f, n_eq_t, n_eq_f, n_toInt, n_cl, n_vp, n_eqM, M_eqn, n_leM, n_ltM, M_len, M_ltn, M_add, n_sub, iM_toInt, x_lt_t, x_lt_f, x_le_t, x_le_f, lt_x_t, lt_x_f, le_x_t, le_x_f, x_eq_f, nI_add, pk_mul, bI_t, bI_f, Int32.toInt_toInt64, n_subI, x_add0, i_le_t, i_le_f, i_lt_t, i_lt_f, k_le_t, k_le_f, k_lt_t, k_lt_f, li_0, li_1, li_2, li_3, li_4, li_5, li_6, li_7, li_8, li_9, li_10, li_11, li_12, li_16, li_20, li_24, li_25, li_26, li_30, li_31, li_32, li_40, li_48, li_49, li_57, li_59, li_60, li_63, li_64, li_65, li_90, li_96, li_97, li_106, li_122, li_255, li_300, li_600, li_800, li_900, li_1850, li_2000, li_2010, li_2040, li_2801, li_3300, li_4161, li_9999, li_10163, li_16500, li_16800, li_17100, li_18350, li_18510, li_18540, li_65536, li_100000, li_999999, li_1000000, li_2147483647, im_1, im_8, ll_0, ll_1, ll_2, ll_3, ll_4, ll_6, ll_16, ll_20, ll_40, ll_63, ll_800, ll_9999, jm_same, jm_ob, jm_ok, jm_il, jm_li, jm_lsame, jm_lob, jm_lok, Nat.reduceAdd, Nat.reduceMul, Nat.zero_add, Nat.add_zero, Nat.mul_zero, Nat.zero_mul, e_mw_isSmall, e_mw_isDigit, e_mw_isDigit0, e_mw_isGreat, e_xs_isSmall, e_xs_isFigure, e_xs_isGreat, e_mw_isLetter, e_xs_isLetter, e_isBlank, e_xs_isBlank, e_isFrom, e_isIn]
  exact hP
theorem m_wrong3 {i n : Nat} {y : Int32} {P : Int32 → MS → Prop} (hi : i < 4) (h3 : jm_i m 3 i = nI n) (hn : n ≤ 60) (hy : y.toInt < 0 ∨ (n : Int) ≤ y.toInt) (hP : P (nI 3) m) : mw_wrongPlace (nI i) y m P := by
  rcases hy with hy | hy
  · simp (disch := omega) only [mw_wrongPlace, mw_isTray, h3, forall_eq, forall_eq', exists_eq_left, exists_eq_left', true_and, and_true, true_implies, false_implies, not_true_eq_false, not_false_eq_true, Prod.mk.injEq, Option.some.injEq, reduceCtorEq, and_self, implies_true, eq_self, Classical.not_not, and_false, false_and, ite_true, ite_false, reduceIte, bI_0, or_false, false_or, or_true, true_or, or_self, if_true, if_false, n_le_t, n_le_f, n_lt_t, n_lt_f, n_eq_t, n_eq_f, n_toInt, n_cl, n_vp, n_eqM, M_eqn, n_leM, n_ltM, M_len, M_ltn, M_add, n_sub, iM_toInt, x_lt_t, x_lt_f, x_le_t, x_le_f, lt_x_t, lt_x_f, le_x_t, le_x_f, x_eq_f, nI_add, pk_mul, bI_t, bI_f, Int32.toInt_toInt64, n_subI, x_add0, i_le_t, i_le_f, i_lt_t, i_lt_f, k_le_t, k_le_f, k_lt_t, k_lt_f, li_0, li_1, li_2, li_3, li_4, li_5, li_6, li_7, li_8, li_9, li_10, li_11, li_12, li_16, li_20, li_24, li_25, li_26, li_30, li_31, li_32, li_40, li_48, li_49, li_57, li_59, li_60, li_63, li_64, li_65, li_90, li_96, li_97, li_106, li_122, li_255, li_300, li_600, li_800, li_900, li_1850, li_2000, li_2010, li_2040, li_2801, li_3300, li_4161, li_9999, li_10163, li_16500, li_16800, li_17100, li_18350, li_18510, li_18540, li_65536, li_100000, li_999999, li_1000000, li_2147483647, im_1, im_8, ll_0, ll_1, ll_2, ll_3, ll_4, ll_6, ll_16, ll_20, ll_40, ll_63, ll_800, ll_9999, jm_same, jm_ob, jm_ok, jm_il, jm_li, jm_lsame, jm_lob, jm_lok, Nat.reduceAdd, Nat.reduceMul, Nat.zero_add, Nat.add_zero, Nat.mul_zero, Nat.zero_mul, e_mw_isSmall, e_mw_isDigit, e_mw_isDigit0, e_mw_isGreat, e_xs_isSmall, e_xs_isFigure, e_xs_isGreat, e_mw_isLetter, e_xs_isLetter, e_isBlank, e_xs_isBlank, e_isFrom, e_isIn]
    exact hP
  · simp (disch := omega) only [mw_wrongPlace, mw_isTray, h3, forall_eq, forall_eq', exists_eq_left, exists_eq_left', true_and, and_true, true_implies, false_implies, not_true_eq_false, not_false_eq_true, Prod.mk.injEq, Option.some.injEq, reduceCtorEq, and_self, implies_true, eq_self, Classical.not_not, and_false, false_and, ite_true, ite_false, reduceIte, bI_0, or_false, false_or, or_true, true_or, or_self, if_true, if_false, n_le_t, n_le_f, n_lt_t, n_lt_f, n_eq_t, n_eq_f, n_toInt, n_cl, n_vp, n_eqM, M_eqn, n_leM, n_ltM, M_len, M_ltn, M_add, n_sub, iM_toInt, x_lt_t, x_lt_f, x_le_t, x_le_f, lt_x_t, lt_x_f, le_x_t, le_x_f, x_eq_f, nI_add, pk_mul, bI_t, bI_f, Int32.toInt_toInt64, n_subI, x_add0, i_le_t, i_le_f, i_lt_t, i_lt_f, k_le_t, k_le_f, k_lt_t, k_lt_f, li_0, li_1, li_2, li_3, li_4, li_5, li_6, li_7, li_8, li_9, li_10, li_11, li_12, li_16, li_20, li_24, li_25, li_26, li_30, li_31, li_32, li_40, li_48, li_49, li_57, li_59, li_60, li_63, li_64, li_65, li_90, li_96, li_97, li_106, li_122, li_255, li_300, li_600, li_800, li_900, li_1850, li_2000, li_2010, li_2040, li_2801, li_3300, li_4161, li_9999, li_10163, li_16500, li_16800, li_17100, li_18350, li_18510, li_18540, li_65536, li_100000, li_999999, li_1000000, li_2147483647, im_1, im_8, ll_0, ll_1, ll_2, ll_3, ll_4, ll_6, ll_16, ll_20, ll_40, ll_63, ll_800, ll_9999, jm_same, jm_ob, jm_ok, jm_il, jm_li, jm_lsame, jm_lob, jm_lok, Nat.reduceAdd, Nat.reduceMul, Nat.zero_add, Nat.add_zero, Nat.mul_zero, Nat.zero_mul, e_mw_isSmall, e_mw_isDigit, e_mw_isDigit0, e_mw_isGreat, e_xs_isSmall, e_xs_isFigure, e_xs_isGreat, e_mw_isLetter, e_xs_isLetter, e_isBlank, e_xs_isBlank, e_isFrom, e_isIn]
    exact hP
theorem m_wrong0 {i n j : Nat} {P : Int32 → MS → Prop} (hi : i < 4) (h3 : jm_i m 3 i = nI n) (hn : n ≤ 60) (hj : j < n) (hP : P (nI 0) m) : mw_wrongPlace (nI i) (nI j) m P := by
  simp (disch := omega) only [mw_wrongPlace, mw_isTray, h3, forall_eq, forall_eq', exists_eq_left, exists_eq_left', true_and, and_true, true_implies, false_implies, not_true_eq_false, not_false_eq_true, Prod.mk.injEq, Option.some.injEq, reduceCtorEq, and_self, implies_true, eq_self, Classical.not_not, and_false, false_and, ite_true, ite_false, reduceIte, bI_0, or_false, false_or, or_true, true_or, or_self, if_true, if_false, n_le_t, n_le_f, n_lt_t, n_lt_f, n_eq_t, n_eq_f, n_toInt, n_cl, n_vp, n_eqM, M_eqn, n_leM, n_ltM, M_len, M_ltn, M_add, n_sub, iM_toInt, x_lt_t, x_lt_f, x_le_t, x_le_f, lt_x_t, lt_x_f, le_x_t, le_x_f, x_eq_f, nI_add, pk_mul, bI_t, bI_f, Int32.toInt_toInt64, n_subI, x_add0, i_le_t, i_le_f, i_lt_t, i_lt_f, k_le_t, k_le_f, k_lt_t, k_lt_f, li_0, li_1, li_2, li_3, li_4, li_5, li_6, li_7, li_8, li_9, li_10, li_11, li_12, li_16, li_20, li_24, li_25, li_26, li_30, li_31, li_32, li_40, li_48, li_49, li_57, li_59, li_60, li_63, li_64, li_65, li_90, li_96, li_97, li_106, li_122, li_255, li_300, li_600, li_800, li_900, li_1850, li_2000, li_2010, li_2040, li_2801, li_3300, li_4161, li_9999, li_10163, li_16500, li_16800, li_17100, li_18350, li_18510, li_18540, li_65536, li_100000, li_999999, li_1000000, li_2147483647, im_1, im_8, ll_0, ll_1, ll_2, ll_3, ll_4, ll_6, ll_16, ll_20, ll_40, ll_63, ll_800, ll_9999, jm_same, jm_ob, jm_ok, jm_il, jm_li, jm_lsame, jm_lob, jm_lok, Nat.reduceAdd, Nat.reduceMul, Nat.zero_add, Nat.add_zero, Nat.mul_zero, Nat.zero_mul, e_mw_isSmall, e_mw_isDigit, e_mw_isDigit0, e_mw_isGreat, e_xs_isSmall, e_xs_isFigure, e_xs_isGreat, e_mw_isLetter, e_xs_isLetter, e_isBlank, e_xs_isBlank, e_isFrom, e_isIn]
  exact hP
theorem iM_l : iM.toInt64 = (-1 : Int64) := by decide
set_option maxHeartbeats 4000000 in
theorem s_read (hR : Rep a K ow u m) (x y : Int32) : STl a m (fun mc ms P => xw0_read (a 0) x y K u mc ms P) (mw_read x y) := by
  intro mc ms P hmc hms hP
  have hR0 := hR
  have hS := (hR.st (nI 0)).1
  have k0 := hR.1.1.1
  have k12 : K (a 12) = (1, 3) := hR.1.1.2.2.2.2.2.2.2.2.2.2.2.2.1
  have hTr := hR.2.2.1
  unfold xw0_read
  refine ⟨k0, fun u2 e2 => ⟨100, 1000, by omega, by omega, ?_⟩⟩
  have e2 : u2 = xsi u (a 0) 7 (nI 0) := e2
  subst e2
  refine x_on hS (fun hx => ?_) (fun i hi ei hz => ?_) (fun i q hi ei hq => ?_)
  · refine x_none k0 k12 ?_
    rw [iM_l]
    refine hP _ _ _ (fun Q hQ => m_wrong1 hx ?_)
    simp (disch := omega) only [forall_eq, forall_eq', exists_eq_left, exists_eq_left', true_and, and_true, true_implies, false_implies, not_true_eq_false, not_false_eq_true, Prod.mk.injEq, Option.some.injEq, reduceCtorEq, and_self, implies_true, eq_self, Classical.not_not, and_false, false_and, ite_true, ite_false, reduceIte, bI_0, or_false, false_or, or_true, true_or, or_self, if_true, if_false, n_le_t, n_le_f, n_lt_t, n_lt_f, n_eq_t, n_eq_f, n_toInt, n_cl, n_vp, n_eqM, M_eqn, n_leM, n_ltM, M_len, M_ltn, M_add, n_sub, iM_toInt, x_lt_t, x_lt_f, x_le_t, x_le_f, lt_x_t, lt_x_f, le_x_t, le_x_f, x_eq_f, nI_add, pk_mul, bI_t, bI_f, Int32.toInt_toInt64, n_subI, x_add0, i_le_t, i_le_f, i_lt_t, i_lt_f, k_le_t, k_le_f, k_lt_t, k_lt_f, li_0, li_1, li_2, li_3, li_4, li_5, li_6, li_7, li_8, li_9, li_10, li_11, li_12, li_16, li_20, li_24, li_25, li_26, li_30, li_31, li_32, li_40, li_48, li_49, li_57, li_59, li_60, li_63, li_64, li_65, li_90, li_96, li_97, li_106, li_122, li_255, li_300, li_600, li_800, li_900, li_1850, li_2000, li_2010, li_2040, li_2801, li_3300, li_4161, li_9999, li_10163, li_16500, li_16800, li_17100, li_18350, li_18510, li_18540, li_65536, li_100000, li_999999, li_1000000, li_2147483647, im_1, im_8, ll_0, ll_1, ll_2, ll_3, ll_4, ll_6, ll_16, ll_20, ll_40, ll_63, ll_800, ll_9999, jm_same, jm_ob, jm_ok, jm_il, jm_li, jm_lsame, jm_lob, jm_lok, Nat.reduceAdd, Nat.reduceMul, Nat.zero_add, Nat.add_zero, Nat.mul_zero, Nat.zero_mul, e_mw_isSmall, e_mw_isDigit, e_mw_isDigit0, e_mw_isGreat, e_xs_isSmall, e_xs_isFigure, e_xs_isGreat, e_mw_isLetter, e_xs_isLetter, e_isBlank, e_xs_isBlank, e_isFrom, e_isIn]
    exact hQ ow _ (hR0.ref _ _)
  · subst ei
    refine x_none k0 k12 ?_
    rw [iM_l]
    refine hP _ _ _ (fun Q hQ => m_wrong2 hi ((hTr i hi).nn hz) ?_)
    simp (disch := omega) only [forall_eq, forall_eq', exists_eq_left, exists_eq_left', true_and, and_true, true_implies, false_implies, not_true_eq_false, not_false_eq_true, Prod.mk.injEq, Option.some.injEq, reduceCtorEq, and_self, implies_true, eq_self, Classical.not_not, and_false, false_and, ite_true, ite_false, reduceIte, bI_0, or_false, false_or, or_true, true_or, or_self, if_true, if_false, n_le_t, n_le_f, n_lt_t, n_lt_f, n_eq_t, n_eq_f, n_toInt, n_cl, n_vp, n_eqM, M_eqn, n_leM, n_ltM, M_len, M_ltn, M_add, n_sub, iM_toInt, x_lt_t, x_lt_f, x_le_t, x_le_f, lt_x_t, lt_x_f, le_x_t, le_x_f, x_eq_f, nI_add, pk_mul, bI_t, bI_f, Int32.toInt_toInt64, n_subI, x_add0, i_le_t, i_le_f, i_lt_t, i_lt_f, k_le_t, k_le_f, k_lt_t, k_lt_f, li_0, li_1, li_2, li_3, li_4, li_5, li_6, li_7, li_8, li_9, li_10, li_11, li_12, li_16, li_20, li_24, li_25, li_26, li_30, li_31, li_32, li_40, li_48, li_49, li_57, li_59, li_60, li_63, li_64, li_65, li_90, li_96, li_97, li_106, li_122, li_255, li_300, li_600, li_800, li_900, li_1850, li_2000, li_2010, li_2040, li_2801, li_3300, li_4161, li_9999, li_10163, li_16500, li_16800, li_17100, li_18350, li_18510, li_18540, li_65536, li_100000, li_999999, li_1000000, li_2147483647, im_1, im_8, ll_0, ll_1, ll_2, ll_3, ll_4, ll_6, ll_16, ll_20, ll_40, ll_63, ll_800, ll_9999, jm_same, jm_ob, jm_ok, jm_il, jm_li, jm_lsame, jm_lob, jm_lok, Nat.reduceAdd, Nat.reduceMul, Nat.zero_add, Nat.add_zero, Nat.mul_zero, Nat.zero_mul, e_mw_isSmall, e_mw_isDigit, e_mw_isDigit0, e_mw_isGreat, e_xs_isSmall, e_xs_isFigure, e_xs_isGreat, e_mw_isLetter, e_xs_isLetter, e_isBlank, e_xs_isBlank, e_isFrom, e_isIn]
    exact hQ ow _ (hR0.ref _ _)
  · subst ei
    obtain ⟨n, s, hs, oq, kq, hn, h3, h2, hv⟩ := (hTr i hi).sm hq
    have o0 : ow (a 0) = 0 := hR.1.2.1 0 (by omega)
    have hqa : q ≠ a 0 := fun z => by rw [z] at oq; omega
    refine ⟨10, 300, by omega, by omega, x_num hs kq hn (fun j hj ej => ?_) (fun hy => ⟨by omega, by omega, fun p u18 e18 => ?_⟩)⟩
    · subst ej
      refine hP _ _ _ (fun Q hQ => m_wrong0 hi h3 hn hj ?_)
      have e : xNum (xsi u (a 0) 7 (nI 0)) q s j = jm_l m 4 (60 * i + j) := by
        rw [hv j hj]
        unfold xNum
        simp [xi, xl, xsi, hqa]
      rw [e] at hQ
      simp (disch := omega) only [forall_eq, forall_eq', exists_eq_left, exists_eq_left', true_and, and_true, true_implies, false_implies, not_true_eq_false, not_false_eq_true, Prod.mk.injEq, Option.some.injEq, reduceCtorEq, and_self, implies_true, eq_self, Classical.not_not, and_false, false_and, ite_true, ite_false, reduceIte, bI_0, or_false, false_or, or_true, true_or, or_self, if_true, if_false, n_le_t, n_le_f, n_lt_t, n_lt_f, n_eq_t, n_eq_f, n_toInt, n_cl, n_vp, n_eqM, M_eqn, n_leM, n_ltM, M_len, M_ltn, M_add, n_sub, iM_toInt, x_lt_t, x_lt_f, x_le_t, x_le_f, lt_x_t, lt_x_f, le_x_t, le_x_f, x_eq_f, nI_add, pk_mul, bI_t, bI_f, Int32.toInt_toInt64, n_subI, x_add0, i_le_t, i_le_f, i_lt_t, i_lt_f, k_le_t, k_le_f, k_lt_t, k_lt_f, li_0, li_1, li_2, li_3, li_4, li_5, li_6, li_7, li_8, li_9, li_10, li_11, li_12, li_16, li_20, li_24, li_25, li_26, li_30, li_31, li_32, li_40, li_48, li_49, li_57, li_59, li_60, li_63, li_64, li_65, li_90, li_96, li_97, li_106, li_122, li_255, li_300, li_600, li_800, li_900, li_1850, li_2000, li_2010, li_2040, li_2801, li_3300, li_4161, li_9999, li_10163, li_16500, li_16800, li_17100, li_18350, li_18510, li_18540, li_65536, li_100000, li_999999, li_1000000, li_2147483647, im_1, im_8, ll_0, ll_1, ll_2, ll_3, ll_4, ll_6, ll_16, ll_20, ll_40, ll_63, ll_800, ll_9999, jm_same, jm_ob, jm_ok, jm_il, jm_li, jm_lsame, jm_lob, jm_lok, Nat.reduceAdd, Nat.reduceMul, Nat.zero_add, Nat.add_zero, Nat.mul_zero, Nat.zero_mul, e_mw_isSmall, e_mw_isDigit, e_mw_isDigit0, e_mw_isGreat, e_xs_isSmall, e_xs_isFigure, e_xs_isGreat, e_mw_isLetter, e_xs_isLetter, e_isBlank, e_xs_isBlank, e_isFrom, e_isIn]
      exact hQ ow _ (hR0.st _)
    · have e18 : u18 = xsi (xsi u (a 0) 7 (nI 0)) (a 0) 7 (nI 3) := e18
      subst e18
      refine hP _ _ _ (fun Q hQ => m_wrong3 hi h3 hn ?_ ?_)
      · rcases pl_ix y n with z | z | ⟨j, hj, rfl⟩
        · exact Or.inl z
        · exact Or.inr z
        · exact absurd (vp_in_nI hj (by omega)) hy
      · simp (disch := omega) only [forall_eq, forall_eq', exists_eq_left, exists_eq_left', true_and, and_true, true_implies, false_implies, not_true_eq_false, not_false_eq_true, Prod.mk.injEq, Option.some.injEq, reduceCtorEq, and_self, implies_true, eq_self, Classical.not_not, and_false, false_and, ite_true, ite_false, reduceIte, bI_0, or_false, false_or, or_true, true_or, or_self, if_true, if_false, n_le_t, n_le_f, n_lt_t, n_lt_f, n_eq_t, n_eq_f, n_toInt, n_cl, n_vp, n_eqM, M_eqn, n_leM, n_ltM, M_len, M_ltn, M_add, n_sub, iM_toInt, x_lt_t, x_lt_f, x_le_t, x_le_f, lt_x_t, lt_x_f, le_x_t, le_x_f, x_eq_f, nI_add, pk_mul, bI_t, bI_f, Int32.toInt_toInt64, n_subI, x_add0, i_le_t, i_le_f, i_lt_t, i_lt_f, k_le_t, k_le_f, k_lt_t, k_lt_f, li_0, li_1, li_2, li_3, li_4, li_5, li_6, li_7, li_8, li_9, li_10, li_11, li_12, li_16, li_20, li_24, li_25, li_26, li_30, li_31, li_32, li_40, li_48, li_49, li_57, li_59, li_60, li_63, li_64, li_65, li_90, li_96, li_97, li_106, li_122, li_255, li_300, li_600, li_800, li_900, li_1850, li_2000, li_2010, li_2040, li_2801, li_3300, li_4161, li_9999, li_10163, li_16500, li_16800, li_17100, li_18350, li_18510, li_18540, li_65536, li_100000, li_999999, li_1000000, li_2147483647, im_1, im_8, ll_0, ll_1, ll_2, ll_3, ll_4, ll_6, ll_16, ll_20, ll_40, ll_63, ll_800, ll_9999, jm_same, jm_ob, jm_ok, jm_il, jm_li, jm_lsame, jm_lob, jm_lok, Nat.reduceAdd, Nat.reduceMul, Nat.zero_add, Nat.add_zero, Nat.mul_zero, Nat.zero_mul, e_mw_isSmall, e_mw_isDigit, e_mw_isDigit0, e_mw_isGreat, e_xs_isSmall, e_xs_isFigure, e_xs_isGreat, e_mw_isLetter, e_xs_isLetter, e_isBlank, e_xs_isBlank, e_isFrom, e_isIn]
        exact hQ ow _ (hR0.q (QM.s QM.refl (by unfold scr; omega)) (QX.st (QX.st QX.refl)) (by rw [xi_same, jm_same]))
end XBU
