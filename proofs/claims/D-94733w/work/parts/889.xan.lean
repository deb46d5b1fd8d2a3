/-! PLAIN LAW: calls that change what is kept: the form; small changes; what is set is taken -/
set_option linter.unusedVariables false
/-- a call: the component comes to an answer and a memory; from there the reference comes to the same answer and a memory that belongs to it -/
def ST (a : Nat → Nat) (m : MS) (X : Nat → Nat → (Int32 → XK → XS → Prop) → Prop) (M : MS → (Int32 → MS → Prop) → Prop) : Prop :=
  ∀ mc ms (P : Int32 → XK → XS → Prop), 9000 ≤ mc → 110000 ≤ ms → (∀ r K2 v, (∀ Q : Int32 → MS → Prop, (∀ ow2 n, Rep a K2 ow2 v n → Q r n) → M m Q) → P r K2 v) → X mc ms P
section XBN
variable {a : Nat → Nat} {K : XK} {ow : Nat → Nat} {u v : XS} {s t : Nat} {as : Nat → Nat} {h : Nat → Int32} {m n : MS}
theorem QA.st (hR : Rep a K ow u m) {X : Nat → Nat → (Int32 → XK → XS → Prop) → Prop} {M : MS → (Int32 → MS → Prop) → Prop} (hq : QA a K ow u m X M) : ST a m X M := by
  obtain ⟨r, st, h1, h2⟩ := hq
  exact fun mc ms P hmc hms hP => h1 mc ms P hmc hms (fun K2 ow2 v hA hT hs => hP r K2 v (fun Q hQ => h2 Q (fun n hn hs2 => hQ ow2 n (Rep.of0 (Rep0.g hR.to0.1 hn hA (by rw [hs, hs2])) hT))))
theorem QQ.st (hR : Rep a K ow u m) {X : XS → (Int32 → XS → Prop) → Prop} {M : MS → (Int32 → MS → Prop) → Prop} (hq : QQ a ow u m X M) : ST a m (fun _ _ P => X u (fun r v => P r K v)) M := by
  obtain ⟨r, st, h1, h2⟩ := hq
  exact fun mc ms P _ _ hP => h1 _ (fun v hX hs => hP r K v (fun Q hQ => h2 Q (fun n hn hs2 => hQ ow n (hR.q hn hX (by rw [hs, hs2])))))
/-- scalars, the tape, the first reading, what is worn may change -/
theorem Rep.sca (hR : Rep a K ow u m) (hc : rSca a v n) (h12 : xi v (a 0) 12 = xi u (a 0) 12) (hi : ∀ b k, ow b ≠ 0 → ow b ≠ 1 → ow b ≠ 3 → ow b ≠ 4 → ¬ xsc (ow b) → xi v b k = xi u b k) (hl : ∀ b k, ow b ≠ 0 → xl v b k = xl u b k) (hr : ∀ b k, xr v b k = xr u b k)
    (hm1 : ∀ k, k < 13200 → jm_i n 1 k = jm_i m 1 k) (hm2 : ∀ k, jm_i n 2 k = jm_i m 2 k) (hm3 : ∀ k, jm_i n 3 k = jm_i m 3 k) (hm4 : ∀ k, jm_l n 4 k = jm_l m 4 k) (h45 : jm_i n 0 45 = jm_i m 0 45) : Rep a K ow v n := by
  obtain ⟨hSt, _, hy, hh, hm, s, as, hs1, hs2⟩ := hR
  have hO := hSt.2.1
  have o2 : ow (a 2) = 2 := hO 2 (by omega)
  have hsl : ∀ i, i ≤ 3 → sl n i = sl m i := fun i hi => by
    funext k
    unfold sl
    by_cases hk : k < 3300
    · simp only [hk, if_true]; exact hm1 _ (by omega)
    · simp only [hk, if_false]
  have hF : Fz K ow u K ow v := ⟨fun _ _ => ⟨rfl, rfl⟩, fun b k _ ho => ⟨hi b k (by omega) (by omega) (by omega) (by omega) (by unfold xsc; omega), hr b k⟩⟩
  refine ⟨hSt.g (fun _ _ => ⟨rfl, rfl⟩) (fun k _ _ => hr _ k) (fun k _ => hr _ k), hc, fun t ht => ?_, ?_, ?_, s, as, by rw [hr, hs1], ?_⟩
  · exact (hy t ht).g (hr _ _) (fun b hb hob => ⟨rfl, rfl, fun k => ⟨hi b k (by omega) (by omega) (by omega) (by omega) (by unfold xsc; omega), hl b k (by omega)⟩⟩) (hm3 t) (hm2 t) (fun k _ => hm4 _)
  · rw [hsl 0 (by omega)]
    exact hh.fz hF (hr _ _) (hi _ _ (by omega) (by omega) (by omega) (by omega) (by unfold xsc; omega)) (hr _ _)
  · exact hm.g hF h12 h45 (fun i _ => hr _ i) (fun b i hb hi2 hob k => ⟨hi b k (by omega) (by omega) (by omega) (by omega) (by unfold xsc; omega), hr b k⟩) (fun i hi2 => hsl _ (by omega))
  · unfold rSet at hs2 ⊢
    simp only [hr]
    exact hs2
/-- the house may change -/
theorem Rep.hou (hR : Rep a K ow u m) (hi : ∀ b k, ow b ≠ 2 → xi v b k = xi u b k) (hl : ∀ b k, xl v b k = xl u b k) (hr : ∀ b k, ow b ≠ 2 → xr v b k = xr u b k) (hh : rHou K ow v (a 2) (sl n 0))
    (hm : ∀ b k, ¬ scr b k → ¬ (b = 1 ∧ k < 3300) → jm_i n b k = jm_i m b k ∧ jm_l n b k = jm_l m b k) (hs : jm_i n 0 1 = jm_i m 0 1) : Rep a K ow v n := by
  obtain ⟨hSt, hc, hy, _, hm2, s, as, hs1, hs2⟩ := hR
  have hO := hSt.2.1
  have o0 : ow (a 0) = 0 := hO 0 (by omega)
  have o1 : ow (a 1) = 1 := hO 1 (by omega)
  have o3 : ow (a 3) = 3 := hO 3 (by omega)
  have o4 : ow (a 4) = 4 := hO 4 (by omega)
  have o5 : ow (a 5) = 5 := hO 5 (by omega)
  have o10 : ow (a 10) = 10 := hO 10 (by omega)
  have os := hs2.2.1
  have hF : Fz K ow u K ow v := ⟨fun _ _ => ⟨rfl, rfl⟩, fun b k _ ho => ⟨hi b k (by omega), hr b k (by omega)⟩⟩
  have em : ∀ b k, ¬ scr b k → ¬ (b = 1 ∧ k < 3300) → jm_i n b k = jm_i m b k := fun b k q q2 => (hm b k q q2).1
  have el : ∀ b k, ¬ scr b k → ¬ (b = 1 ∧ k < 3300) → jm_l n b k = jm_l m b k := fun b k q q2 => (hm b k q q2).2
  have hsl : ∀ i, 1 ≤ i → i ≤ 3 → sl n i = sl m i := fun i h1 h2 => by
    funext k
    unfold sl
    by_cases hk : k < 3300
    · simp only [hk, if_true]; exact em _ _ (by unfold scr; omega) (by omega)
    · simp only [hk, if_false]
  refine ⟨hSt.g (fun _ _ => ⟨rfl, rfl⟩) (fun k _ _ => hr _ k (by omega)) (fun k _ => hr _ k (by omega)), ?_, fun t ht => ?_, hh, ?_, s, as, by rw [hr _ _ (by omega), hs1], ?_⟩
  · obtain ⟨⟨c1, c2⟩, c3, c4, c5, c6, c7, c8, c9, c10⟩ := hc
    have m9 := em 0 9 (by unfold scr; omega) (by omega)
    have m15 := em 0 15 (by unfold scr; omega) (by omega)
    have m16 := em 0 16 (by unfold scr; omega) (by omega)
    have m36 := em 0 36 (by unfold scr; omega) (by omega)
    have m37 := em 0 37 (by unfold scr; omega) (by omega)
    have m42 := em 0 42 (by unfold scr; omega) (by omega)
    have l2 := el 0 2 (by unfold scr; omega) (by omega)
    have l3 := el 0 3 (by unfold scr; omega) (by omega)
    have e0 : ∀ k, xi v (a 0) k = xi u (a 0) k := fun k => hi _ k (by omega)
    have e1 : ∀ k, xi v (a 1) k = xi u (a 1) k := fun k => hi _ k (by omega)
    have e3 : ∀ k, xi v (a 3) k = xi u (a 3) k := fun k => hi _ k (by omega)
    have e4 : ∀ k, xi v (a 4) k = xi u (a 4) k := fun k => hi _ k (by omega)
    have m5 : ∀ k, jm_i n 5 k = jm_i m 5 k := fun k => em 5 k (by unfold scr; omega) (by omega)
    have m17 : ∀ k, jm_i n 17 k = jm_i m 17 k := fun k => em 17 k (by unfold scr; omega) (by omega)
    have m22 : ∀ k, jm_i n 22 k = jm_i m 22 k := fun k => em 22 k (by unfold scr; omega) (by omega)
    unfold rSca
    simp only [e0, e1, e3, e4, hl, m9, m15, m16, m36, m37, m42, l2, l3, m5, m17, m22, hs]
    exact ⟨⟨c1, c2⟩, c3, c4, c5, c6, c7, c8, c9, c10⟩
  · exact (hy t ht).g (hr _ _ (by have := hO (6 + t) (by omega); omega)) (fun b hb hob => ⟨rfl, rfl, fun k => ⟨hi b k (by omega), hl b k⟩⟩) (em 3 t (by unfold scr; omega) (by omega)) (em 2 t (by unfold scr; omega) (by omega)) (fun k _ => el 4 _ (by unfold scr; omega) (by omega))
  · exact hm2.g hF (hi _ _ (by omega)) (em 0 45 (by unfold scr; omega) (by omega)) (fun i _ => hr _ i (by omega)) (fun b i hb hi2 hob k => ⟨hi b k (by omega), hr b k (by omega)⟩) (fun i hi2 => hsl _ (by omega) (by omega))
  · unfold rSet at hs2 ⊢
    have es : ∀ k, xr v s k = xr u s k := fun k => hr s k (by omega)
    simp only [es]
    exact hs2
/-- a table that is the same -/
theorem rTab.cong {h2 : Nat → Int32} (he : ∀ k, k < 6 ∨ (12 ≤ k ∧ k < 300) → h2 k = h k) (hT : WT h) (hb : rTab K ow u t h) : rTab K ow u t h2 := by
  have hh : ∀ k, k < 6 ∨ (12 ≤ k ∧ k < 300) → hN h2 k = hN h k := fun k hk => congrArg Int32.toNatClampNeg (he k hk)
  obtain ⟨ra, h1, h2', h3, h4, h5, h6, h7, h8, h9, h10, h11, h12⟩ := hb
  have g0l := hT.1.2
  refine ⟨ra, h1, h2', h3, h4, h5, by rw [h6, he 0 (by omega)], by rw [h7, he 1 (by omega)], by rw [h8, he 2 (by omega)], by rw [h9, he 3 (by omega)], by rw [h10, he 4 (by omega)], by rw [h11, he 5 (by omega)], fun r hr => ?_⟩
  rw [hh 0 (by omega)] at hr
  obtain ⟨o, ho, la, ca, q1, q2, q3, q4, q5, q6, q7, q8, q9, q10⟩ := h12 r hr
  obtain ⟨⟨e1, l1, l6⟩, el, ⟨e7, c1, c3⟩, ec, ⟨e11, d4⟩⟩ := hT.2.2.2.2.2.2 r hr
  exact ⟨o, ho, la, ca, by rw [hh _ (by omega)]; exact q1, q2, q3, by rw [hh _ (by omega)]; exact q4, q5, q6, by rw [hh _ (by omega)]; exact q7, q8, fun k hk => by rw [hh _ (by omega)] at hk ⊢; exact q9 k hk, fun k hk => by rw [hh _ (by omega)] at hk; rw [he _ (by omega)]; exact q10 k hk⟩
/-- what is set is taken -/
theorem m_takesSet {w : Nat → Int32} {P : MS → Prop} (hP : ∀ v, (∀ b k, ¬ (b = 1 ∧ k < 3300) → jm_i v b k = jm_i (MK m w) b k) → (∀ b k, jm_l v b k = jm_l m b k) → sl v 0 = tkW (sl m 0) w → P v) : mw_takesSet (MK m w) P := by
  unfold mw_takesSet
  have step : ∀ (v : MS) (k j : Nat) (C : Nat → Prop), k < 3300 → (∀ b q, ¬ (b = 1 ∧ q < 3300) → jm_i v b q = jm_i (MK m w) b q) ∧ (∀ b q, jm_l v b q = jm_l m b q) ∧ (∀ q, q < 3300 → jm_i v 1 q = cI (C q) (w q) (sl m 0 q)) →
      (∀ b q, ¬ (b = 1 ∧ q < 3300) → jm_i (jm_s v 1 k (jm_i v 1 (16500 + k))) b q = jm_i (MK m w) b q) ∧ (∀ b q, jm_l (jm_s v 1 k (jm_i v 1 (16500 + k))) b q = jm_l m b q) ∧ (∀ q, q < 3300 → jm_i (jm_s v 1 k (jm_i v 1 (16500 + k))) 1 q = cI (C q ∨ q = k) (w q) (sl m 0 q)) := by
    intro v k j C hk hI
    obtain ⟨h1, h2, h3⟩ := hI
    have e : jm_i v 1 (16500 + k) = w k := by rw [h1 _ _ (by omega), MK_hi]
    rw [e]
    refine ⟨fun b q hq => ?_, h2, fun q hq => ?_⟩
    · by_cases hb : b = 1
      · subst hb; rw [jm_ok (by omega)]; exact h1 _ _ hq
      · rw [jm_ob hb]; exact h1 _ _ hq
    · by_cases hz : q = k
      · subst hz; rw [jm_same, cI_t (Or.inr rfl)]
      · rw [jm_ok hz, h3 q hq]
        exact cI_c ⟨fun z => Or.inl z, fun z => z.resolve_right hz⟩
  refine lp_st (fun n k v => mw_takesSet_L3 P n (nI k) v) (fun k v => 7 ≤ k ∧ (∀ b q, ¬ (b = 1 ∧ q < 3300) → jm_i v b q = jm_i (MK m w) b q) ∧ (∀ b q, jm_l v b q = jm_l m b q) ∧ (∀ q, q < 3300 → jm_i v 1 q = cI (7 ≤ q ∧ q < k) (w q) (sl m 0 q))) 12 7 _ (by omega)
    ⟨by omega, fun b q _ => rfl, fun b q => MK_l, fun q hq => by rw [cI_f (by omega), MK_tab hq]⟩ (fun n v hI => ?_) (fun n k v hk hI ih => ?_)
  · unfold mw_takesSet_L3 mw_takesSet_L3_S
    simp (disch := omega) only [forall_eq, forall_eq', exists_eq_left, exists_eq_left', true_and, and_true, true_implies, false_implies, not_true_eq_false, not_false_eq_true, Prod.mk.injEq, Option.some.injEq, reduceCtorEq, and_self, implies_true, eq_self, Classical.not_not, and_false, false_and, ite_true, ite_false, reduceIte, bI_0, or_false, false_or, or_true, true_or, or_self, if_true, if_false, n_le_t, n_le_f, n_lt_t, n_lt_f, n_eq_t, n_eq_f, n_toInt, n_cl, n_vp, n_eqM, M_eqn, n_leM, n_ltM, M_len, M_ltn, M_add, n_sub, iM_toInt, x_lt_t, x_lt_f, x_le_t, x_le_f, lt_x_t, lt_x_f, le_x_t, le_x_f, x_eq_f, nI_add, pk_mul, bI_t, bI_f, Int32.toInt_toInt64, n_subI, x_add0, i_le_t, i_le_f, i_lt_t, i_lt_f, k_le_t, k_le_f, k_lt_t, k_lt_f, li_0, li_1, li_2, li_3, li_4, li_5, li_6, li_7, li_8, li_9, li_10, li_11, li_12, li_16, li_20, li_24, li_25, li_26, li_30, li_31, li_32, li_40, li_48, li_49, li_57, li_59, li_60, li_63, li_64, li_65, li_90, li_96, li_97, li_106, li_122, li_255, li_300, li_600, li_800, li_900, li_1850, li_2000, li_2010, li_2040, li_2801, li_3300, li_4161, li_9999, li_10163, li_16500, li_16800, li_17100, li_18350, li_18510, li_18540, li_65536, li_100000, li_999999, li_1000000, li_2147483647, im_1, im_8, ll_0, ll_1, ll_2, ll_3, ll_4, ll_6, ll_16, ll_20, ll_40, ll_63, ll_800, ll_9999, jm_same, jm_ob, jm_ok, jm_il, jm_li, jm_lsame, jm_lob, jm_lok, Nat.reduceAdd, Nat.reduceMul, Nat.zero_add, Nat.add_zero, Nat.mul_zero, Nat.zero_mul, e_mw_isSmall, e_mw_isDigit, e_mw_isDigit0, e_mw_isGreat, e_xs_isSmall, e_xs_isFigure, e_xs_isGreat, e_mw_isLetter, e_xs_isLetter, e_isBlank, e_xs_isBlank, e_isFrom, e_isIn]
    refine lp_st (fun n k v => mw_takesSet_L35 P n (nI k) v) (fun k v => 300 ≤ k ∧ (∀ b q, ¬ (b = 1 ∧ q < 3300) → jm_i v b q = jm_i (MK m w) b q) ∧ (∀ b q, jm_l v b q = jm_l m b q) ∧ (∀ q, q < 3300 → jm_i v 1 q = cI ((7 ≤ q ∧ q < 12) ∨ (300 ≤ q ∧ q < k)) (w q) (sl m 0 q))) 3300 300 _ (by omega)
      ⟨by omega, hI.2.1, hI.2.2.1, fun q hq => by rw [hI.2.2.2 q hq]; exact cI_c (by omega)⟩ (fun n v hJ => ?_) (fun n k v hk hJ ih => ?_)
    · unfold mw_takesSet_L35 mw_takesSet_L35_S
      simp (disch := omega) only [forall_eq, forall_eq', exists_eq_left, exists_eq_left', true_and, and_true, true_implies, false_implies, not_true_eq_false, not_false_eq_true, Prod.mk.injEq, Option.some.injEq, reduceCtorEq, and_self, implies_true, eq_self, Classical.not_not, and_false, false_and, ite_true, ite_false, reduceIte, bI_0, or_false, false_or, or_true, true_or, or_self, if_true, if_false, n_le_t, n_le_f, n_lt_t, n_lt_f, n_eq_t, n_eq_f, n_toInt, n_cl, n_vp, n_eqM, M_eqn, n_leM, n_ltM, M_len, M_ltn, M_add, n_sub, iM_toInt, x_lt_t, x_lt_f, x_le_t, x_le_f, lt_x_t, lt_x_f, le_x_t, le_x_f, x_eq_f, nI_add, pk_mul, bI_t, bI_f, Int32.toInt_toInt64, n_subI, x_add0, i_le_t, i_le_f, i_lt_t, i_lt_f, k_le_t, k_le_f, k_lt_t, k_lt_f, li_0, li_1, li_2, li_3, li_4, li_5, li_6, li_7, li_8, li_9, li_10, li_11, li_12, li_16, li_20, li_24, li_25, li_26, li_30, li_31, li_32, li_40, li_48, li_49, li_57, li_59, li_60, li_63, li_64, li_65, li_90, li_96, li_97, li_106, li_122, li_255, li_300, li_600, li_800, li_900, li_1850, li_2000, li_2010, li_2040, li_2801, li_3300, li_4161, li_9999, li_10163, li_16500, li_16800, li_17100, li_18350, li_18510, li_18540, li_65536, li_100000, li_999999, li_1000000, li_2147483647, im_1, im_8, ll_0, ll_1, ll_2, ll_3, ll_4, ll_6, ll_16, ll_20, ll_40, ll_63, ll_800, ll_9999, jm_same, jm_ob, jm_ok, jm_il, jm_li, jm_lsame, jm_lob, jm_lok, Nat.reduceAdd, Nat.reduceMul, Nat.zero_add, Nat.add_zero, Nat.mul_zero, Nat.zero_mul, e_mw_isSmall, e_mw_isDigit, e_mw_isDigit0, e_mw_isGreat, e_xs_isSmall, e_xs_isFigure, e_xs_isGreat, e_mw_isLetter, e_xs_isLetter, e_isBlank, e_xs_isBlank, e_isFrom, e_isIn]
      refine hP v hJ.2.1 hJ.2.2.1 ?_
      funext q
      by_cases hq : q < 3300
      · rw [← sl_of hq, hJ.2.2.2 q hq]
        unfold tkW
        by_cases z : (7 ≤ q ∧ q < 12) ∨ (300 ≤ q ∧ q < 3300)
        · rw [cI_t z, if_pos z]
        · rw [cI_f z, if_neg z]
      · rw [tkW, if_neg (by omega)]
        unfold sl
        rw [if_neg hq, if_neg hq]
    · unfold mw_takesSet_L35 mw_takesSet_L35_S
      simp (disch := omega) only [forall_eq, forall_eq', exists_eq_left, exists_eq_left', true_and, and_true, true_implies, false_implies, not_true_eq_false, not_false_eq_true, Prod.mk.injEq, Option.some.injEq, reduceCtorEq, and_self, implies_true, eq_self, Classical.not_not, and_false, false_and, ite_true, ite_false, reduceIte, bI_0, or_false, false_or, or_true, true_or, or_self, if_true, if_false, n_le_t, n_le_f, n_lt_t, n_lt_f, n_eq_t, n_eq_f, n_toInt, n_cl, n_vp, n_eqM, M_eqn, n_leM, n_ltM, M_len, M_ltn, M_add, n_sub, iM_toInt, x_lt_t, x_lt_f, x_le_t, x_le_f, lt_x_t, lt_x_f, le_x_t, le_x_f, x_eq_f, nI_add, pk_mul, bI_t, bI_f, Int32.toInt_toInt64, n_subI, x_add0, i_le_t, i_le_f, i_lt_t, i_lt_f, k_le_t, k_le_f, k_lt_t, k_lt_f, li_0, li_1, li_2, li_3, li_4, li_5, li_6, li_7, li_8, li_9, li_10, li_11, li_12, li_16, li_20, li_24, li_25, li_26, li_30, li_31, li_32, li_40, li_48, li_49, li_57, li_59, li_60, li_63, li_64, li_65, li_90, li_96, li_97, li_106, li_122, li_255, li_300, li_600, li_800, li_900, li_1850, li_2000, li_2010, li_2040, li_2801, li_3300, li_4161, li_9999, li_10163, li_16500, li_16800, li_17100, li_18350, li_18510, li_18540, li_65536, li_100000, li_999999, li_1000000, li_2147483647, im_1, im_8, ll_0, ll_1, ll_2, ll_3, ll_4, ll_6, ll_16, ll_20, ll_40, ll_63, ll_800, ll_9999, jm_same, jm_ob, jm_ok, jm_il, jm_li, jm_lsame, jm_lob, jm_lok, Nat.reduceAdd, Nat.reduceMul, Nat.zero_add, Nat.add_zero, Nat.mul_zero, Nat.zero_mul, e_mw_isSmall, e_mw_isDigit, e_mw_isDigit0, e_mw_isGreat, e_xs_isSmall, e_xs_isFigure, e_xs_isGreat, e_mw_isLetter, e_xs_isLetter, e_isBlank, e_xs_isBlank, e_isFrom, e_isIn]
      obtain ⟨y1, y2, y3⟩ := step v k 0 (fun q => (7 ≤ q ∧ q < 12) ∨ (300 ≤ q ∧ q < k)) (by omega) hJ.2
      have h300 := hJ.1
      exact ih _ ⟨by omega, y1, y2, fun q hq => by rw [y3 q hq]; exact cI_c (by show (((7 ≤ q ∧ q < 12) ∨ (300 ≤ q ∧ q < k)) ∨ q = k) ↔ _; omega)⟩
  · unfold mw_takesSet_L3 mw_takesSet_L3_S
    simp (disch := omega) only [forall_eq, forall_eq', exists_eq_left, exists_eq_left', true_and, and_true, true_implies, false_implies, not_true_eq_false, not_false_eq_true, Prod.mk.injEq, Option.some.injEq, reduceCtorEq, and_self, implies_true, eq_self, Classical.not_not, and_false, false_and, ite_true, ite_false, reduceIte, bI_0, or_false, false_or, or_true, true_or, or_self, if_true, if_false, n_le_t, n_le_f, n_lt_t, n_lt_f, n_eq_t, n_eq_f, n_toInt, n_cl, n_vp, n_eqM, M_eqn, n_leM, n_ltM, M_len, M_ltn, M_add, n_sub, iM_toInt, x_lt_t, x_lt_f, x_le_t, x_le_f, lt_x_t, lt_x_f, le_x_t, le_x_f, x_eq_f, nI_add, pk_mul, bI_t, bI_f, Int32.toInt_toInt64, n_subI, x_add0, i_le_t, i_le_f, i_lt_t, i_lt_f, k_le_t, k_le_f, k_lt_t, k_lt_f, li_0, li_1, li_2, li_3, li_4, li_5, li_6, li_7, li_8, li_9, li_10, li_11, li_12, li_16, li_20, li_24, li_25, li_26, li_30, li_31, li_32, li_40, li_48, li_49, li_57, li_59, li_60, li_63, li_64, li_65, li_90, li_96, li_97, li_106, li_122, li_255, li_300, li_600, li_800, li_900, li_1850, li_2000, li_2010, li_2040, li_2801, li_3300, li_4161, li_9999, li_10163, li_16500, li_16800, li_17100, li_18350, li_18510, li_18540, li_65536, li_100000, li_999999, li_1000000, li_2147483647, im_1, im_8, ll_0, ll_1, ll_2, ll_3, ll_4, ll_6, ll_16, ll_20, ll_40, ll_63, ll_800, ll_9999, jm_same, jm_ob, jm_ok, jm_il, jm_li, jm_lsame, jm_lob, jm_lok, Nat.reduceAdd, Nat.reduceMul, Nat.zero_add, Nat.add_zero, Nat.mul_zero, Nat.zero_mul, e_mw_isSmall, e_mw_isDigit, e_mw_isDigit0, e_mw_isGreat, e_xs_isSmall, e_xs_isFigure, e_xs_isGreat, e_mw_isLetter, e_xs_isLetter, e_isBlank, e_xs_isBlank, e_isFrom, e_isIn]
    obtain ⟨y1, y2, y3⟩ := step v k 0 (fun q => 7 ≤ q ∧ q < k) (by omega) hI.2
    have h7 := hI.1
    exact ih _ ⟨by omega, y1, y2, fun q hq => by rw [y3 q hq]; exact cI_c (by show ((7 ≤ q ∧ q < k) ∨ q = k) ↔ _; omega)⟩
theorem sl_so {b k i : Nat} {x : Int32} (hb : b ≠ 1) : sl (jm_s m b k x) i = sl m i := by
  funext q
  unfold sl
  by_cases hq : q < 3300
  · simp only [hq, if_true]; exact jm_ob (by omega)
  · simp only [hq, if_false]
/-- a writing is set and taken -/
theorem Rep.tkn {w : Nat → Int32} {v3 v4 : XS} {K3 : XK} {r : Nat} (hR : Rep a K ow u m) (hH : XH a K ow u s t as (sl m 0)) (hT : WT (sl m 0)) (hTW : WT (tkW (sl m 0) w)) (hWW : WWs (tkW (sl m 0) w)) (hq : QZ ow u v3) (hAE : AE K v3 K3 v4)
    (hWr : rWri K3 (fun c => if (K c).1 = 0 then 100 else ow c) v4 r (tkW (sl m 0) w)) :
    ∃ ow3 : Nat → Nat, ow3 (a 0) = 0 ∧ ow3 (a 2) = 2 ∧ K3 (a 2) = (1, 4) ∧ xr v4 (a 0) 10 = some (a 2) ∧ rWri K3 ow3 v4 r (tkW (sl m 0) w) ∧
      ∀ n, (∀ b k, ¬ scr b k → ¬ (b = 1 ∧ k < 3300) → jm_i n b k = jm_i m b k ∧ jm_l n b k = jm_l m b k) → jm_i n 0 1 = jm_i m 0 1 → sl n 0 = tkW (sl m 0) w → Rep a K3 ow3 (xsr v4 (a 2) 2 (some r)) n := by
  have q0 : ow (a 0) = 0 := hR.1.2.1 0 (by omega)
  have nz : ∀ {b : Nat} {y : Nat × Nat}, K b = y → y.1 ≠ 0 → (K b).1 ≠ 0 := fun {b y} e hy => by rw [e]; exact hy
  have z0 := nz hH.1.1.2.2.2.2.1 (by simp)
  have hX4 : XA (a 0) K ow u K3 (fun c => if (K c).1 = 0 then 100 else ow c) v4 := (XA.of hq.x).trans (XA.ae hAE (fun b hb => if_neg hb))
  have s4 : xi v4 (a 0) 7 = xi u (a 0) 7 := by rw [((hAE (a 0) z0).2 7).1, hq.1 _ _ (by rw [q0]; unfold xsc; omega)]
  have hH3 := hH.x hq.x
  have hR8 : Rep a K3 (fun c => if (K c).1 = 0 then 100 else ow c) v4 m := Rep.of0 (Rep0.g hR.to0.1 QM.refl hX4 (by rw [s4]; exact hR.2.1.2.2.2.1)) ⟨s, as, by rw [((hAE (a 0) z0).2 13).2.2]; exact hH3.1.2.1, XA.set q0 hX4 hH.1.1.1⟩
  refine ⟨fun c => if (K c).1 = 0 then 100 else ow c, hR8.1.2.1 0 (by omega), hR8.1.2.1 2 (by omega), hR8.1.1.2.2.1, hR8.1.2.2.1.2.2.2.2.1, hWr, fun n hm hs hsl => ?_⟩
  generalize (fun c => if (K c).1 = 0 then 100 else ow c) = ow3 at hX4 hR8 hWr
  have q32 : ow3 (a 2) = 2 := hR8.1.2.1 2 (by omega)
  have k32 : K3 (a 2) = (1, 4) := hR8.1.1.2.2.1
  have hne : ∀ b k, ow3 b ≠ 2 → xr (xsr v4 (a 2) 2 (some r)) b k = xr v4 b k := fun b k hb => xr_oa ow3 (by omega)
  refine hR8.hou (fun b k _ => rfl) (fun b k => rfl) (fun b k hb => hne b k hb) ?_ hm hs
  rw [hsl]
  have hF : Fz K3 ow3 v4 K3 ow3 (xsr v4 (a 2) 2 (some r)) := ⟨fun _ _ => ⟨rfl, rfl⟩, fun b k _ ho => ⟨rfl, hne b k (by omega)⟩⟩
  obtain ⟨_, _, _, ⟨tb, ptb, hTb⟩, cdr, _⟩ := hR8.2.2.2.1
  refine ⟨hTW, Or.inr hWW, k32, ⟨tb, by rw [← ptb]; exact xr_ok (by omega), (hTb.cong (fun k hk => tkW_h (by omega)) hT).fz hF⟩, ?_, Or.inr ⟨hWW, r, xr_same, hWr.fz hF⟩⟩
  rw [tkW_h (by omega)]
  exact cdr
end XBN
