/-! PLAIN LAW: write, tray -/
set_option linter.unusedVariables false
section XBV
variable {a : Nat → Nat} {K : XK} {ow : Nat → Nat} {u v : XS} {m n : MS}
/-- a tray may change -/
theorem Rep.tra {i : Nat} (hR : Rep a K ow u m) (hi4 : i < 4) (hi : ∀ b k, ow b ≠ 60 + i → xi v b k = xi u b k) (hl : ∀ b k, ow b ≠ 60 + i → xl v b k = xl u b k) (hr : ∀ b k, b ≠ a (6 + i) → xr v b k = xr u b k)
    (hn : ∀ b k, ¬ (b = 2 ∧ k = i) → ¬ (b = 3 ∧ k = i) → jm_i n b k = jm_i m b k) (hnl : ∀ b k, ¬ (b = 4 ∧ 60 * i ≤ k ∧ k < 60 * i + 60) → jm_l n b k = jm_l m b k) (ht : rTray K ow v n (a (6 + i)) i) : Rep a K ow v n := by
  obtain ⟨hSt, hc, hy, hh, hm2, s, as, hs1, hs2⟩ := hR
  have hO := hSt.2.1
  have o6 : ow (a (6 + i)) = 6 + i := hO _ (by omega)
  have o0 : ow (a 0) = 0 := hO 0 (by omega)
  have o1 : ow (a 1) = 1 := hO 1 (by omega)
  have o2 : ow (a 2) = 2 := hO 2 (by omega)
  have o3 : ow (a 3) = 3 := hO 3 (by omega)
  have o4 : ow (a 4) = 4 := hO 4 (by omega)
  have o5 : ow (a 5) = 5 := hO 5 (by omega)
  have o10 : ow (a 10) = 10 := hO 10 (by omega)
  have os := hs2.2.1
  have hr' : ∀ b k, ow b ≠ 6 + i → xr v b k = xr u b k := fun b k hb => hr b k (fun z => hb (by rw [z]; exact o6))
  have hF : Fz K ow u K ow v := ⟨fun _ _ => ⟨rfl, rfl⟩, fun b k _ ho => ⟨hi b k (by omega), hr' b k (by omega)⟩⟩
  have mm : ∀ b k, b ≠ 2 → b ≠ 3 → jm_i n b k = jm_i m b k := fun b k h2 h3 => hn b k (by omega) (by omega)
  have hsl : ∀ i, sl n i = sl m i := fun i => by
    funext k
    unfold sl
    by_cases hk : k < 3300
    · simp only [hk, if_true]; exact mm _ _ (by omega) (by omega)
    · simp only [hk, if_false]
  refine ⟨hSt.g (fun _ _ => ⟨rfl, rfl⟩) (fun k _ _ => hr' _ k (by omega)) (fun k _ => hr' _ k (by omega)), ?_, fun t ht4 => ?_, ?_, ?_, s, as, by rw [hr' _ _ (by omega), hs1], ?_⟩
  · obtain ⟨⟨d1, dq, d2, d3⟩, d4, d5, d6, d7, d8, d9, _, _⟩ := id hc
    exact rSca.of hc ⟨dq, by rw [hi _ _ (by omega), d1, d2], by rw [mm _ _ (by omega) (by omega), d2], d3⟩ (by rw [hi _ _ (by omega), mm _ _ (by omega) (by omega), d4]) (by rw [hi _ _ (by omega), mm _ _ (by omega) (by omega), d5]) (by rw [hi _ _ (by omega), mm _ _ (by omega) (by omega), d6]) (by rw [hl _ _ (by omega), hnl _ _ (by omega), d7]) (by rw [hl _ _ (by omega), hnl _ _ (by omega), d8])
      (fun k hk => by rw [hi _ _ (by omega), mm _ _ (by omega) (by omega)]; exact d9 k hk) (hi _ _ (by omega)) (hi _ _ (by omega)) (hi _ _ (by omega)) (fun k => hi _ k (by omega)) (fun k => hi _ k (by omega)) (mm _ _ (by omega) (by omega)) (mm _ _ (by omega) (by omega)) (mm _ _ (by omega) (by omega)) (fun k => mm _ k (by omega) (by omega)) (fun k => mm _ k (by omega) (by omega))
  · by_cases z : t = i
    · subst z; exact ht
    · have o6t : ow (a (6 + t)) = 6 + t := hO _ (by omega)
      exact (hy t ht4).g (hr' _ _ (by omega)) (fun b hb hob => ⟨rfl, rfl, fun k => ⟨hi b k (by omega), hl b k (by omega)⟩⟩) (hn _ _ (by omega) (by omega)) (hn _ _ (by omega) (by omega)) (fun k hk => hnl _ _ (by omega))
  · rw [hsl]
    exact hh.fz hF (hr' _ _ (by omega)) (hi _ _ (by omega)) (hr' _ _ (by omega))
  · exact hm2.g hF (hi _ _ (by omega)) (mm _ _ (by omega) (by omega)) (fun i _ => hr' _ i (by omega)) (fun b i hb hi2 hob k => ⟨hi b k (by omega), hr' b k (by omega)⟩) (fun i _ => hsl _)
  · unfold rSet at hs2 ⊢
    have es : ∀ k, xr v s k = xr u s k := fun k => hr' s k (by omega)
    simp only [es]
    exact hs2
/-- a row's kind as the reference has it -/
def sCo (s : Nat) : Nat := if s = 1 then 0 else if s = 2 then 1 else if s = 0 then 2 else 3
theorem rTray.of {i q n2 s : Nat} {o : Nat} (ho : xr u o 0 = some q) (oq : ow q = 60 + i) (kq : K q = (s + 2, n2)) (hs : s < 4) (hn : n2 ≤ 60) (h3 : jm_i m 3 i = nI n2) (h2 : jm_i m 2 i = nI (sCo s)) (hv : ∀ k, k < n2 → jm_l m 4 (60 * i + k) = xNum u q s k) : rTray K ow u m o i := by
  refine Or.inr ⟨q, n2, s, ho, oq, kq, hn, h3, ?_⟩
  have hs4 : s = 0 ∨ s = 1 ∨ s = 2 ∨ s = 3 := by omega
  rcases hs4 with e | e | e | e <;> subst e
  · exact Or.inr (Or.inr (Or.inl ⟨rfl, h2, hv⟩))
  · exact Or.inl ⟨rfl, h2, hv⟩
  · exact Or.inr (Or.inl ⟨rfl, h2, hv⟩)
  · exact Or.inr (Or.inr (Or.inr ⟨rfl, h2, hv⟩))
def cutI (s : Nat) (v : Int64) : Int32 := if s = 1 then v.toInt32.toInt8.toInt32.toInt8.toInt32 else if s = 2 then v.toInt32.toInt16.toInt32.toInt16.toInt32 else v.toInt32
def cutL (s : Nat) (v : Int64) : Int64 := if s = 3 then v else (cutI s v).toInt64
def xPut (u : XS) (q s j : Nat) (v : Int64) : XS := if s = 3 then xsl u q j v else xsi u q j (cutI s v)
theorem x_put {q n s mc ms : Nat} {y : Int32} {w : Int64} {P : XK → XS → Prop} {PX : Nat → XK → XS → Prop} (hs : s < 4) (kq : K q = (s + 2, n)) (hn : n ≤ 60) (hmc : 3 ≤ mc) (hms : 222 ≤ ms) (hP : ∀ j, j < n → y = nI j → P K (xPut u q s j w)) (hX : ¬ vp_in y n → ∀ p, PX p K u) : xw0_put q y w K u mc ms P PX := by
  have hT : xTray K q := ⟨s, n, hs, kq⟩
  have key : ∀ (hv : vp_in y n) (v : XS), (∀ j, j < n → y = nI j → v = xPut u q s j w) → P K v := fun hv v e => by
    obtain ⟨j, hj, ej⟩ := vp_j hv
    rw [e j hj ej]; exact hP j hj ej
  have hs4 : s = 0 ∨ s = 1 ∨ s = 2 ∨ s = 3 := by omega
  unfold xw0_put
  rcases hs4 with e | e | e | e <;> subst e
  · refine ⟨hT, fun v1 e1 => ⟨fun _ => ⟨hT, by rw [kq]; show 0 + 2 ≠ 3; omega, fun v2 e2 => ⟨fun _ => ⟨hT, ⟨by rw [kq]; show 0 + 2 ≠ 3; omega, by rw [kq]; show 0 + 2 ≠ 4; omega⟩, fun v3 e3 => ⟨fun z => ?_, fun _ => ⟨n, kq, fun hv u4 e4 => key hv u4 (fun j hj ej => by rw [e4, ej, n_cl (by omega)]; rfl), fun hv => ⟨by omega, hmc, hms, hX hv⟩⟩⟩⟩, fun z => ?_⟩⟩, fun z => ?_⟩⟩
    · rw [e3, jx_t kq] at z; exact absurd z (by decide)
    · rw [e2, jx_f kq (by omega)] at z; exact absurd rfl z
    · rw [e1, jx_f kq (by omega)] at z; exact absurd rfl z
  · refine ⟨hT, fun v1 e1 => ⟨fun z => ?_, fun _ => ⟨n, kq, fun hv u4 e4 => key hv u4 (fun j hj ej => by rw [e4, ej, n_cl (by omega)]; rfl), fun hv => ⟨by omega, hmc, hms, hX hv⟩⟩⟩⟩
    rw [e1, jx_t kq] at z; exact absurd z (by decide)
  · refine ⟨hT, fun v1 e1 => ⟨fun _ => ⟨hT, by rw [kq]; show 2 + 2 ≠ 3; omega, fun v2 e2 => ⟨fun z => ?_, fun _ => ⟨n, kq, fun hv u4 e4 => key hv u4 (fun j hj ej => by rw [e4, ej, n_cl (by omega)]; rfl), fun hv => ⟨by omega, hmc, hms, hX hv⟩⟩⟩⟩, fun z => ?_⟩⟩
    · rw [e2, jx_t kq] at z; exact absurd z (by decide)
    · rw [e1, jx_f kq (by omega)] at z; exact absurd rfl z
  · refine ⟨hT, fun v1 e1 => ⟨fun _ => ⟨hT, by rw [kq]; show 3 + 2 ≠ 3; omega, fun v2 e2 => ⟨fun _ => ⟨hT, ⟨by rw [kq]; show 3 + 2 ≠ 3; omega, by rw [kq]; show 3 + 2 ≠ 4; omega⟩, fun v3 e3 => ⟨fun _ => ⟨n, kq, fun hv u4 e4 => key hv u4 (fun j hj ej => by rw [e4, ej, n_cl (by omega)]; rfl), fun hv => ⟨by omega, hmc, hms, hX hv⟩⟩, fun z => ?_⟩⟩, fun z => ?_⟩⟩, fun z => ?_⟩⟩
    · rw [e3, jx_f kq (by omega)] at z; exact absurd rfl z
    · rw [e2, jx_f kq (by omega)] at z; exact absurd rfl z
    · rw [e1, jx_f kq (by omega)] at z; exact absurd rfl z
theorem m_cut {s : Nat} {w : Int64} {P : Int64 → Prop} (hs : s < 4) (hP : P (cutL s w)) : mw_cut w (nI (sCo s)) P := by
  have hs4 : s = 0 ∨ s = 1 ∨ s = 2 ∨ s = 3 := by omega
  unfold mw_cut
  rcases hs4 with e | e | e | e <;> subst e
  · exact ⟨fun _ => ⟨fun _ => ⟨fun z => absurd rfl z, fun _ => hP⟩, fun z => absurd z (by decide)⟩, fun z => absurd z (by decide)⟩
  · refine ⟨fun z => absurd rfl z, fun _ => ?_⟩
    have e : cutL 1 w = w.toInt32.toInt8.toInt32.toInt64 := by
      show (w.toInt32.toInt8.toInt32.toInt8.toInt32).toInt64 = _
      rw [Int8.toInt8_toInt32]
    rw [← e]; exact hP
  · refine ⟨fun _ => ⟨fun z => absurd rfl z, fun _ => ?_⟩, fun z => absurd z (by decide)⟩
    have e : cutL 2 w = w.toInt32.toInt16.toInt32.toInt64 := by
      show (w.toInt32.toInt16.toInt32.toInt16.toInt32).toInt64 = _
      rw [Int16.toInt16_toInt32]
    rw [← e]; exact hP
  · exact ⟨fun _ => ⟨fun _ => ⟨fun _ => hP, fun z => absurd z (by decide)⟩, fun z => absurd z (by decide)⟩, fun z => absurd z (by decide)⟩
theorem xNum_put {q s j k : Nat} {w : Int64} : xNum (xPut u q s j w) q s k = if k = j then cutL s w else xNum u q s k := by
  unfold xNum xPut cutL
  by_cases hs : s = 3
  · by_cases hk : k = j <;> simp [hs, hk, xl, xsl]
  · by_cases hk : k = j <;> simp [hs, hk, xi, xsi]
theorem xPut_i {q s j b k : Nat} {w : Int64} (hb : b ≠ q) : xi (xPut u q s j w) b k = xi u b k ∧ xl (xPut u q s j w) b k = xl u b k := by
  unfold xPut
  by_cases hs : s = 3 <;> simp [hs, xi, xl, xsi, xsl, hb]
theorem xPut_r {q s j b k : Nat} {w : Int64} : xr (xPut u q s j w) b k = xr u b k := by
  unfold xPut
  by_cases hs : s = 3 <;> simp [hs, xr, xsi, xsl]
set_option maxHeartbeats 4000000 in
theorem s_write (hR : Rep a K ow u m) (x y : Int32) (w : Int64) : ST a m (fun mc ms P => xw0_write (a 0) x y w K u mc ms P) (mw_write x y w) := by
  intro mc ms P hmc hms hP
  have hR0 := hR
  have hR1 := hR.st (nI 0)
  have hS := hR1.1
  have k0 := hR.1.1.1
  have k12 : K (a 12) = (1, 3) := hR.1.1.2.2.2.2.2.2.2.2.2.2.2.2.1
  have hTr := hR.2.2.1
  unfold xw0_write
  refine ⟨k0, fun u2 e2 => ⟨100, 1000, by omega, by omega, ?_⟩⟩
  have e2 : u2 = xsi u (a 0) 7 (nI 0) := e2
  subst e2
  refine x_on hS (fun hx => ?_) (fun i hi ei hz => ?_) (fun i q hi ei hq => ?_)
  · refine x_no k0 k12 ?_
    refine hP _ _ _ (fun Q hQ => m_wrong1 hx ?_)
    simp (disch := omega) only [mw_is, forall_eq, forall_eq', exists_eq_left, exists_eq_left', true_and, and_true, true_implies, false_implies, not_true_eq_false, not_false_eq_true, Prod.mk.injEq, Option.some.injEq, reduceCtorEq, and_self, implies_true, eq_self, Classical.not_not, and_false, false_and, ite_true, ite_false, reduceIte, bI_0, or_false, false_or, or_true, true_or, or_self, if_true, if_false, n_le_t, n_le_f, n_lt_t, n_lt_f, n_eq_t, n_eq_f, n_toInt, n_cl, n_vp, n_eqM, M_eqn, n_leM, n_ltM, M_len, M_ltn, M_add, n_sub, iM_toInt, x_lt_t, x_lt_f, x_le_t, x_le_f, lt_x_t, lt_x_f, le_x_t, le_x_f, x_eq_f, nI_add, pk_mul, bI_t, bI_f, Int32.toInt_toInt64, n_subI, x_add0, i_le_t, i_le_f, i_lt_t, i_lt_f, k_le_t, k_le_f, k_lt_t, k_lt_f, li_0, li_1, li_2, li_3, li_4, li_5, li_6, li_7, li_8, li_9, li_10, li_11, li_12, li_16, li_20, li_24, li_25, li_26, li_30, li_31, li_32, li_40, li_48, li_49, li_57, li_59, li_60, li_63, li_64, li_65, li_90, li_96, li_97, li_106, li_122, li_255, li_300, li_600, li_800, li_900, li_1850, li_2000, li_2010, li_2040, li_2801, li_3300, li_4161, li_9999, li_10163, li_16500, li_16800, li_17100, li_18350, li_18510, li_18540, li_65536, li_100000, li_999999, li_1000000, li_2147483647, im_1, im_8, ll_0, ll_1, ll_2, ll_3, ll_4, ll_6, ll_16, ll_20, ll_40, ll_63, ll_800, ll_9999, jm_same, jm_ob, jm_ok, jm_il, jm_li, jm_lsame, jm_lob, jm_lok, Nat.reduceAdd, Nat.reduceMul, Nat.zero_add, Nat.add_zero, Nat.mul_zero, Nat.zero_mul, e_mw_isSmall, e_mw_isDigit, e_mw_isDigit0, e_mw_isGreat, e_xs_isSmall, e_xs_isFigure, e_xs_isGreat, e_mw_isLetter, e_xs_isLetter, e_isBlank, e_xs_isBlank, e_isFrom, e_isIn]
    exact hQ ow _ (hR0.ref _ _)
  · subst ei
    refine x_no k0 k12 ?_
    refine hP _ _ _ (fun Q hQ => m_wrong2 hi ((hTr i hi).nn hz) ?_)
    simp (disch := omega) only [mw_is, forall_eq, forall_eq', exists_eq_left, exists_eq_left', true_and, and_true, true_implies, false_implies, not_true_eq_false, not_false_eq_true, Prod.mk.injEq, Option.some.injEq, reduceCtorEq, and_self, implies_true, eq_self, Classical.not_not, and_false, false_and, ite_true, ite_false, reduceIte, bI_0, or_false, false_or, or_true, true_or, or_self, if_true, if_false, n_le_t, n_le_f, n_lt_t, n_lt_f, n_eq_t, n_eq_f, n_toInt, n_cl, n_vp, n_eqM, M_eqn, n_leM, n_ltM, M_len, M_ltn, M_add, n_sub, iM_toInt, x_lt_t, x_lt_f, x_le_t, x_le_f, lt_x_t, lt_x_f, le_x_t, le_x_f, x_eq_f, nI_add, pk_mul, bI_t, bI_f, Int32.toInt_toInt64, n_subI, x_add0, i_le_t, i_le_f, i_lt_t, i_lt_f, k_le_t, k_le_f, k_lt_t, k_lt_f, li_0, li_1, li_2, li_3, li_4, li_5, li_6, li_7, li_8, li_9, li_10, li_11, li_12, li_16, li_20, li_24, li_25, li_26, li_30, li_31, li_32, li_40, li_48, li_49, li_57, li_59, li_60, li_63, li_64, li_65, li_90, li_96, li_97, li_106, li_122, li_255, li_300, li_600, li_800, li_900, li_1850, li_2000, li_2010, li_2040, li_2801, li_3300, li_4161, li_9999, li_10163, li_16500, li_16800, li_17100, li_18350, li_18510, li_18540, li_65536, li_100000, li_999999, li_1000000, li_2147483647, im_1, im_8, ll_0, ll_1, ll_2, ll_3, ll_4, ll_6, ll_16, ll_20, ll_40, ll_63, ll_800, ll_9999, jm_same, jm_ob, jm_ok, jm_il, jm_li, jm_lsame, jm_lob, jm_lok, Nat.reduceAdd, Nat.reduceMul, Nat.zero_add, Nat.add_zero, Nat.mul_zero, Nat.zero_mul, e_mw_isSmall, e_mw_isDigit, e_mw_isDigit0, e_mw_isGreat, e_xs_isSmall, e_xs_isFigure, e_xs_isGreat, e_mw_isLetter, e_xs_isLetter, e_isBlank, e_xs_isBlank, e_isFrom, e_isIn]
    exact hQ ow _ (hR0.ref _ _)
  · subst ei
    obtain ⟨n, s, hs, oq, kq, hn, h3, h2, hv⟩ := (hTr i hi).sm hq
    have o0 : ow (a 0) = 0 := hR.1.2.1 0 (by omega)
    have o6 : ow (a (6 + i)) = 6 + i := hR.1.2.1 _ (by omega)
    have hqa : q ≠ a 0 := fun z => by rw [z] at oq; omega
    refine ⟨10, 300, by omega, by omega, x_put hs kq hn (by omega) (by omega) (fun j hj ej => ?_) (fun hy p u18 e18 => ?_)⟩
    · subst ej
      refine hP _ _ _ (fun Q hQ => m_wrong0 hi h3 hn hj ?_)
      simp (disch := omega) only [h2, forall_eq, forall_eq', exists_eq_left, exists_eq_left', true_and, and_true, true_implies, false_implies, not_true_eq_false, not_false_eq_true, Prod.mk.injEq, Option.some.injEq, reduceCtorEq, and_self, implies_true, eq_self, Classical.not_not, and_false, false_and, ite_true, ite_false, reduceIte, bI_0, or_false, false_or, or_true, true_or, or_self, if_true, if_false, n_le_t, n_le_f, n_lt_t, n_lt_f, n_eq_t, n_eq_f, n_toInt, n_cl, n_vp, n_eqM, M_eqn, n_leM, n_ltM, M_len, M_ltn, M_add, n_sub, iM_toInt, x_lt_t, x_lt_f, x_le_t, x_le_f, lt_x_t, lt_x_f, le_x_t, le_x_f, x_eq_f, nI_add, pk_mul, bI_t, bI_f, Int32.toInt_toInt64, n_subI, x_add0, i_le_t, i_le_f, i_lt_t, i_lt_f, k_le_t, k_le_f, k_lt_t, k_lt_f, li_0, li_1, li_2, li_3, li_4, li_5, li_6, li_7, li_8, li_9, li_10, li_11, li_12, li_16, li_20, li_24, li_25, li_26, li_30, li_31, li_32, li_40, li_48, li_49, li_57, li_59, li_60, li_63, li_64, li_65, li_90, li_96, li_97, li_106, li_122, li_255, li_300, li_600, li_800, li_900, li_1850, li_2000, li_2010, li_2040, li_2801, li_3300, li_4161, li_9999, li_10163, li_16500, li_16800, li_17100, li_18350, li_18510, li_18540, li_65536, li_100000, li_999999, li_1000000, li_2147483647, im_1, im_8, ll_0, ll_1, ll_2, ll_3, ll_4, ll_6, ll_16, ll_20, ll_40, ll_63, ll_800, ll_9999, jm_same, jm_ob, jm_ok, jm_il, jm_li, jm_lsame, jm_lob, jm_lok, Nat.reduceAdd, Nat.reduceMul, Nat.zero_add, Nat.add_zero, Nat.mul_zero, Nat.zero_mul, e_mw_isSmall, e_mw_isDigit, e_mw_isDigit0, e_mw_isGreat, e_xs_isSmall, e_xs_isFigure, e_xs_isGreat, e_mw_isLetter, e_xs_isLetter, e_isBlank, e_xs_isBlank, e_isFrom, e_isIn]
      refine m_cut hs ?_
      simp (disch := omega) only [mw_is, forall_eq, forall_eq', exists_eq_left, exists_eq_left', true_and, and_true, true_implies, false_implies, not_true_eq_false, not_false_eq_true, Prod.mk.injEq, Option.some.injEq, reduceCtorEq, and_self, implies_true, eq_self, Classical.not_not, and_false, false_and, ite_true, ite_false, reduceIte, bI_0, or_false, false_or, or_true, true_or, or_self, if_true, if_false, n_le_t, n_le_f, n_lt_t, n_lt_f, n_eq_t, n_eq_f, n_toInt, n_cl, n_vp, n_eqM, M_eqn, n_leM, n_ltM, M_len, M_ltn, M_add, n_sub, iM_toInt, x_lt_t, x_lt_f, x_le_t, x_le_f, lt_x_t, lt_x_f, le_x_t, le_x_f, x_eq_f, nI_add, pk_mul, bI_t, bI_f, Int32.toInt_toInt64, n_subI, x_add0, i_le_t, i_le_f, i_lt_t, i_lt_f, k_le_t, k_le_f, k_lt_t, k_lt_f, li_0, li_1, li_2, li_3, li_4, li_5, li_6, li_7, li_8, li_9, li_10, li_11, li_12, li_16, li_20, li_24, li_25, li_26, li_30, li_31, li_32, li_40, li_48, li_49, li_57, li_59, li_60, li_63, li_64, li_65, li_90, li_96, li_97, li_106, li_122, li_255, li_300, li_600, li_800, li_900, li_1850, li_2000, li_2010, li_2040, li_2801, li_3300, li_4161, li_9999, li_10163, li_16500, li_16800, li_17100, li_18350, li_18510, li_18540, li_65536, li_100000, li_999999, li_1000000, li_2147483647, im_1, im_8, ll_0, ll_1, ll_2, ll_3, ll_4, ll_6, ll_16, ll_20, ll_40, ll_63, ll_800, ll_9999, jm_same, jm_ob, jm_ok, jm_il, jm_li, jm_lsame, jm_lob, jm_lok, Nat.reduceAdd, Nat.reduceMul, Nat.zero_add, Nat.add_zero, Nat.mul_zero, Nat.zero_mul, e_mw_isSmall, e_mw_isDigit, e_mw_isDigit0, e_mw_isGreat, e_xs_isSmall, e_xs_isFigure, e_xs_isGreat, e_mw_isLetter, e_xs_isLetter, e_isBlank, e_xs_isBlank, e_isFrom, e_isIn]
      refine hQ ow _ (hR1.tra hi (fun b k hb => (xPut_i (fun z => hb (by rw [z]; exact oq))).1) (fun b k hb => (xPut_i (fun z => hb (by rw [z]; exact oq))).2) (fun b k _ => xPut_r) (fun b k _ _ => rfl) (fun b k hb => ?_) ?_)
      · have hne : ¬ (b = 4 ∧ k = 60 * i + j) := fun z => hb (by omega)
        simp [jm_l, jm_s, jm_sl, hne]
      · refine rTray.of (q := q) (s := s) (n2 := n) (by rw [xPut_r]; exact hq) oq kq hs hn h3 h2 (fun k hk => ?_)
        rw [xNum_put]
        by_cases z : k = j
        · subst z
          rw [if_pos rfl]
          simp [jm_l, jm_s, jm_sl]
        · rw [if_neg z]
          have e : xNum (xsi u (a 0) 7 (nI 0)) q s k = xNum u q s k := by
            unfold xNum
            simp [xi, xl, xsi, hqa]
          rw [e, ← hv k hk]
          show (if 4 = 4 ∧ 60 * i + k = 60 * i + j then _ else _) = _
          rw [if_neg (by omega)]
          rfl
    · have e18 : u18 = xsi (xsi u (a 0) 7 (nI 0)) (a 0) 7 (nI 3) := e18
      subst e18
      refine hP _ _ _ (fun Q hQ => m_wrong3 hi h3 hn ?_ ?_)
      · rcases pl_ix y n with z | z | ⟨j, hj, rfl⟩
        · exact Or.inl z
        · exact Or.inr z
        · exact absurd (vp_in_nI hj (by omega)) hy
      · simp (disch := omega) only [mw_is, forall_eq, forall_eq', exists_eq_left, exists_eq_left', true_and, and_true, true_implies, false_implies, not_true_eq_false, not_false_eq_true, Prod.mk.injEq, Option.some.injEq, reduceCtorEq, and_self, implies_true, eq_self, Classical.not_not, and_false, false_and, ite_true, ite_false, reduceIte, bI_0, or_false, false_or, or_true, true_or, or_self, if_true, if_false, n_le_t, n_le_f, n_lt_t, n_lt_f, n_eq_t, n_eq_f, n_toInt, n_cl, n_vp, n_eqM, M_eqn, n_leM, n_ltM, M_len, M_ltn, M_add, n_sub, iM_toInt, x_lt_t, x_lt_f, x_le_t, x_le_f, lt_x_t, lt_x_f, le_x_t, le_x_f, x_eq_f, nI_add, pk_mul, bI_t, bI_f, Int32.toInt_toInt64, n_subI, x_add0, i_le_t, i_le_f, i_lt_t, i_lt_f, k_le_t, k_le_f, k_lt_t, k_lt_f, li_0, li_1, li_2, li_3, li_4, li_5, li_6, li_7, li_8, li_9, li_10, li_11, li_12, li_16, li_20, li_24, li_25, li_26, li_30, li_31, li_32, li_40, li_48, li_49, li_57, li_59, li_60, li_63, li_64, li_65, li_90, li_96, li_97, li_106, li_122, li_255, li_300, li_600, li_800, li_900, li_1850, li_2000, li_2010, li_2040, li_2801, li_3300, li_4161, li_9999, li_10163, li_16500, li_16800, li_17100, li_18350, li_18510, li_18540, li_65536, li_100000, li_999999, li_1000000, li_2147483647, im_1, im_8, ll_0, ll_1, ll_2, ll_3, ll_4, ll_6, ll_16, ll_20, ll_40, ll_63, ll_800, ll_9999, jm_same, jm_ob, jm_ok, jm_il, jm_li, jm_lsame, jm_lob, jm_lok, Nat.reduceAdd, Nat.reduceMul, Nat.zero_add, Nat.add_zero, Nat.mul_zero, Nat.zero_mul, e_mw_isSmall, e_mw_isDigit, e_mw_isDigit0, e_mw_isGreat, e_xs_isSmall, e_xs_isFigure, e_xs_isGreat, e_mw_isLetter, e_xs_isLetter, e_isBlank, e_xs_isBlank, e_isFrom, e_isIn]
        exact hQ ow _ (hR0.q (QM.s QM.refl (by unfold scr; omega)) (QX.st (QX.st QX.refl)) (by rw [xi_same, jm_same]))
/-- a row is made -/
theorem x_row {c n mc ms : Nat} {P : Nat → XK → XS → Prop} {PX : Nat → XK → XS → Prop} (hc : c < 4) (hn : n ≤ 60) (hmc : 1 ≤ mc) (hms : 60 ≤ ms) (hP : ∀ b s, s < 4 → sCo s = c → (K b).1 = 0 → P b (xup K b (s + 2, n)) (xz u b)) : xw0_row (nI c) (nI n) K u mc ms P PX := by
  have hlt : ¬ nI n < 0 := by
    have := n_lt_f (a := n) (b := 0) (by omega) (by omega)
    intro z
    rw [show (0 : Int32) = nI 0 from rfl, this] at z
    exact z
  have hcl : (nI n).toNatClampNeg = n := n_cl (by omega)
  have fin : ∀ s, s < 4 → sCo s = c → (¬ nI n < 0 → ¬ nI n < 0 ∧ (nI n).toNatClampNeg * 8 ≤ 536870912 ∧ 1 ≤ mc ∧ (0 + (nI n).toNatClampNeg) ≤ ms ∧ ∀ (b : Nat) (K1 : XK) (u1 : XS), (K b).1 = 0 → K1 = xup K b (s + 2, (nI n).toNatClampNeg) → u1 = xz u b → P b K1 u1) := fun s hs hsc _ => by
    rw [hcl]
    refine ⟨hlt, by omega, hmc, by omega, fun b K1 u1 hb e1 e2 => ?_⟩
    subst e1 e2
    exact hP b s hs hsc hb
  have hc4 : c = 0 ∨ c = 1 ∨ c = 2 ∨ c = 3 := by omega
  unfold xw0_row
  rcases hc4 with e | e | e | e <;> subst e
  · exact ⟨fun z => absurd rfl z, fun _ => ⟨fin 1 (by omega) rfl, fun z => absurd z hlt⟩⟩
  · exact ⟨fun _ => ⟨fun z => absurd rfl z, fun _ => ⟨fin 2 (by omega) rfl, fun z => absurd z hlt⟩⟩, fun z => absurd z (by decide)⟩
  · exact ⟨fun _ => ⟨fun _ => ⟨fun z => absurd rfl z, fun _ => ⟨fin 0 (by omega) rfl, fun z => absurd z hlt⟩⟩, fun z => absurd z (by decide)⟩, fun z => absurd z (by decide)⟩
  · exact ⟨fun _ => ⟨fun _ => ⟨fun _ => ⟨fin 3 (by omega) rfl, fun z => absurd z hlt⟩, fun z => absurd z (by decide)⟩, fun z => absurd z (by decide)⟩, fun z => absurd z (by decide)⟩
theorem x_rowN {c : Nat} {y : Int32} {mc ms : Nat} {P : Nat → XK → XS → Prop} {PX : Nat → XK → XS → Prop} (hc : c < 4) (hy : y.toInt < 0) (hmc : 3 ≤ mc) (hms : 54 ≤ ms) (hX : ∀ p, PX p K u) : xw0_row (nI c) y K u mc ms P PX := by
  have hlt : y < 0 := by rw [Int32.lt_iff_toInt_lt]; exact hy
  have hc4 : c = 0 ∨ c = 1 ∨ c = 2 ∨ c = 3 := by omega
  unfold xw0_row
  rcases hc4 with e | e | e | e <;> subst e
  · exact ⟨fun z => absurd rfl z, fun _ => ⟨fun z => absurd hlt z, fun _ => ⟨hmc, hms, hX⟩⟩⟩
  · exact ⟨fun _ => ⟨fun z => absurd rfl z, fun _ => ⟨fun z => absurd hlt z, fun _ => ⟨hmc, hms, hX⟩⟩⟩, fun z => absurd z (by decide)⟩
  · exact ⟨fun _ => ⟨fun _ => ⟨fun z => absurd rfl z, fun _ => ⟨fun z => absurd hlt z, fun _ => ⟨hmc, hms, hX⟩⟩⟩, fun z => absurd z (by decide)⟩, fun z => absurd z (by decide)⟩
  · exact ⟨fun _ => ⟨fun _ => ⟨fun _ => ⟨fun z => absurd hlt z, fun _ => ⟨hmc, hms, hX⟩⟩, fun z => absurd z (by decide)⟩, fun z => absurd z (by decide)⟩, fun z => absurd z (by decide)⟩
end XBV
