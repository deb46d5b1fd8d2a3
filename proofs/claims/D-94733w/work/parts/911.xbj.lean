/-! PLAIN LAW: odds -/
set_option linter.unusedVariables false
def gcF : Nat → Nat → Nat → Nat
  | 0, a, b => a
  | f + 1, a, b => if b = 0 then a else gcF f b (a % b)
theorem gcF_z {f a : Nat} : gcF (f + 1) a 0 = a := rfl
theorem gcF_s {f a b : Nat} (h : b ≠ 0) : gcF (f + 1) a b = gcF f b (a % b) := if_neg h
theorem gcF_b : ∀ f a b, b < f → a < 2147483648 → b < 2147483648 → (0 < a ∨ 0 < b) → 0 < gcF f a b ∧ gcF f a b < 2147483648
  | 0, a, b, h, _, _, _ => by omega
  | f + 1, a, b, h, ha, hb, h0 => by
    by_cases z : b = 0
    · subst z
      rw [gcF_z]; omega
    · rw [gcF_s z]
      have := Nat.mod_lt a (show b > 0 by omega)
      exact gcF_b f b (a % b) (by omega) hb (by omega) (Or.inl (by omega))
theorem lg_z {x : Int64} : (lg_cmp x 0 = 0) ↔ x = 0 := by
  unfold lg_cmp
  by_cases h : x > 0
  · rw [if_pos h]
    refine ⟨fun z => absurd z (by decide), fun z => ?_⟩
    rw [z] at h
    exact absurd h (by decide)
  · rw [if_neg h]
    by_cases e : x = 0
    · rw [if_pos e]; exact ⟨fun _ => e, fun _ => rfl⟩
    · rw [if_neg e]; exact ⟨fun z => absurd z (by decide), fun z => absurd z e⟩
theorem lN_z {n : Nat} (hn : n < 2147483648) : (lN n = 0) ↔ n = 0 := by
  have := lN_eq (a := n) (b := 0) (by omega) (by omega)
  exact this
section XCJ
variable {a : Nat → Nat} {K : XK} {ow : Nat → Nat} {u v : XS} {m n : MS} {h : Nat → Int32}
theorem x_fraction {c d : Nat} {P : Int32 → XS → Prop} (k0 : K (a 0) = (1, 0)) (hc : c < 2147483648) (hd0 : 0 < d) (hd : d < 2147483648) (hP : ∀ r, P r (xsl (xsl u (a 0) 8 (lN (c / gcF (d + 1) c d))) (a 0) 9 (lN (d / gcF (d + 1) c d)))) : xw0_fraction (a 0) (lN c) (lN d) K u P := by
  have habs : (if 0 < lN c then lN c else -lN c) = lN c := by
    by_cases z : c = 0
    · subst z; decide
    · have h0 : (0 : Int64) < lN c := (lN_lt (a := 0) (b := c) (by omega) (by omega)).mpr (by omega)
      rw [if_pos h0]
  unfold xw0_fraction jw_abs
  rw [habs]
  have key : ∀ f a' b', b' < f → a' < 2147483648 → b' < 2147483648 → (0 < a' ∨ 0 < b') → gcF f a' b' = gcF (d + 1) c d → xw0_fraction_L9 P K (a 0) (lN c) (lN d) f (lN a') (lN b') u := by
    intro f
    induction f with
    | zero => intro a' b' h; omega
    | succ f ih =>
      intro a' b' hf ha hb h0 hg
      have hgb := gcF_b (f + 1) a' b' hf ha hb h0
      unfold xw0_fraction_L9 xw0_fraction_L9_S
      by_cases z : b' = 0
      · subst z
        rw [gcF_z] at hg hgb
        have hne : ¬ lN a' = 0 := fun q => by have := (lN_z ha).mp q; omega
        refine ⟨fun _ => ⟨hne, k0, fun u39 e39 => ⟨hne, fun u47 e47 => ?_⟩⟩, fun q => absurd (lg_z.mpr ((lN_z (by omega)).mpr rfl)) q⟩
        rw [pk_lDiv (by omega) (by omega) (by omega)] at e39
        rw [pk_lDiv (by omega) (by omega) (by omega)] at e47
        subst e39 e47
        rw [hg]
        unfold js_signum
        exact hP _
      · have hne : ¬ lN b' = 0 := fun q => z ((lN_z hb).mp q)
        rw [gcF_s z] at hg
        have hm := Nat.mod_lt a' (show b' > 0 by omega)
        refine ⟨fun q => absurd (lg_z.mp q) hne, fun _ => ⟨hne, fun v21 e21 => ?_⟩⟩
        rw [pk_lRem (by omega) (by omega) (by omega)] at e21
        subst e21
        exact ih b' (a' % b') (by omega) hb (by omega) (Or.inl (by omega)) hg
  exact ⟨d + 1, key (d + 1) c d (by omega) hc hd (Or.inr hd0) rfl⟩
theorem m_tellsBy {c d : Nat} {P : Int32 → MS → Prop} (hc : c < 2147483648) (hd0 : 0 < d) (hd : d < 2147483648) (hP : P (nI 1) (jm_s (jm_sl (jm_sl m 0 2 (lN (c / gcF (d + 1) c d))) 0 3 (lN (d / gcF (d + 1) c d))) 0 1 (nI 0))) : mw_tellsBy (lN c) (lN d) m P := by
  unfold mw_tellsBy
  have key : ∀ f a' b', b' < f → a' < 2147483648 → b' < 2147483648 → (0 < a' ∨ 0 < b') → gcF f a' b' = gcF (d + 1) c d → mw_tellsBy_L6 P (lN c) (lN d) f (lN a') (lN b') m := by
    intro f
    induction f with
    | zero => intro a' b' h; omega
    | succ f ih =>
      intro a' b' hf ha hb h0 hg
      have hgb := gcF_b (f + 1) a' b' hf ha hb h0
      unfold mw_tellsBy_L6 mw_tellsBy_L6_S
      by_cases z : b' = 0
      · subst z
        rw [gcF_z] at hg hgb
        have hne : ¬ lN a' = 0 := fun q => by have := (lN_z ha).mp q; omega
        refine ⟨fun _ => ⟨hne, fun u39 e39 => ⟨hne, fun u47 e47 => ?_⟩⟩, fun q => absurd (lg_z.mpr ((lN_z (by omega)).mpr rfl)) q⟩
        rw [pk_lDiv (by omega) (by omega) (by omega)] at e39
        rw [pk_lDiv (by omega) (by omega) (by omega)] at e47
        subst e39 e47
        rw [hg]
        simp (disch := omega) only [mw_is, forall_eq, forall_eq', exists_eq_left, exists_eq_left', true_and, and_true, true_implies, false_implies, not_true_eq_false, not_false_eq_true, Prod.mk.injEq, Option.some.injEq, reduceCtorEq, and_self, implies_true, eq_self, Classical.not_not, and_false, false_and, ite_true, ite_false, reduceIte, bI_0, or_false, false_or, or_true, true_or, or_self, if_true, if_false, n_le_t, n_le_f, n_lt_t, n_lt_f, n_eq_t, n_eq_f, n_toInt, n_cl, n_vp, n_eqM, M_eqn, n_leM, n_ltM, M_len, M_ltn, M_add, n_sub, iM_toInt, x_lt_t, x_lt_f, x_le_t, x_le_f, lt_x_t, lt_x_f, le_x_t, le_x_f, x_eq_f, nI_add, pk_mul, bI_t, bI_f, Int32.toInt_toInt64, n_subI, x_add0, i_le_t, i_le_f, i_lt_t, i_lt_f, k_le_t, k_le_f, k_lt_t, k_lt_f, li_0, li_1, li_2, li_3, li_4, li_5, li_6, li_7, li_8, li_9, li_10, li_11, li_12, li_16, li_20, li_24, li_25, li_26, li_30, li_31, li_32, li_40, li_48, li_49, li_57, li_59, li_60, li_63, li_64, li_65, li_90, li_96, li_97, li_106, li_122, li_255, li_300, li_600, li_800, li_900, li_1850, li_2000, li_2010, li_2040, li_2801, li_3300, li_4161, li_9999, li_10163, li_16500, li_16800, li_17100, li_18350, li_18510, li_18540, li_65536, li_100000, li_999999, li_1000000, li_2147483647, im_1, im_8, ll_0, ll_1, ll_2, ll_3, ll_4, ll_6, ll_16, ll_20, ll_40, ll_63, ll_800, ll_9999, jm_same, jm_ob, jm_ok, jm_il, jm_li, jm_lsame, jm_lob, jm_lok, Nat.reduceAdd, Nat.reduceMul, Nat.zero_add, Nat.add_zero, Nat.mul_zero, Nat.zero_mul, e_mw_isSmall, e_mw_isDigit, e_mw_isDigit0, e_mw_isGreat, e_xs_isSmall, e_xs_isFigure, e_xs_isGreat, e_mw_isLetter, e_xs_isLetter, e_isBlank, e_xs_isBlank, e_isFrom, e_isIn]
        exact hP
      · have hne : ¬ lN b' = 0 := fun q => z ((lN_z hb).mp q)
        rw [gcF_s z] at hg
        have hm := Nat.mod_lt a' (show b' > 0 by omega)
        refine ⟨fun q => absurd (lg_z.mp q) hne, fun _ => ⟨hne, fun v21 e21 => ?_⟩⟩
        rw [pk_lRem (by omega) (by omega) (by omega)] at e21
        subst e21
        exact ih b' (a' % b') (by omega) hb (by omega) (Or.inl (by omega)) hg
  exact ⟨d + 1, key (d + 1) c d (by omega) hc hd (Or.inr hd0) rfl⟩
theorem wrI_g {c six : Int32} {g : Nat} : ∀ d x z, ∃ g2, (it (wrI c six) (x, nI g, z) d).2.1 = nI g2 ∧ g2 ≤ g + d
  | 0, x, z => ⟨g, rfl, Nat.le_refl _⟩
  | d + 1, x, z => by
    obtain ⟨g2, h1, h2⟩ := wrI_g (c := c) (six := six) (g := g) d x z
    rw [it_s]
    generalize it (wrI c six) (x, nI g, z) d = t at h1
    obtain ⟨t1, t2, t3⟩ := t
    have h1 : t2 = nI g2 := h1
    by_cases b : wrB0 c d
    · rw [wrI_0 b]; exact ⟨g2, h1, by omega⟩
    · by_cases l : dwR (dwS t1) < six
      · rw [wrI_1 b l]
        exact ⟨g2 + 1, by show t2 + nI 1 = _; rw [h1, nI_add], by omega⟩
      · rw [wrI_2 b l]; exact ⟨g2, h1, by omega⟩
theorem wrA_g {seed six : Int32} : ∀ n, ∃ g, (wrA h seed six n).2.1 = nI g ∧ g ≤ 6 * n
  | 0 => ⟨0, rfl, Nat.le_refl _⟩
  | n + 1 => by
    obtain ⟨g, h1, h2⟩ := wrA_g (seed := seed) (six := six) n
    have e : (wrA h seed six (n + 1)).2.1 = (it (wrI (h (600 + n)) six) ((wrA h seed six n).1, (wrA h seed six n).2.1, h (600 + n)) 6).2.1 := rfl
    rw [e, h1]
    obtain ⟨g2, y1, y2⟩ := wrI_g (c := h (600 + n)) (six := six) (g := g) 6 (wrA h seed six n).1 (h (600 + n))
    exact ⟨g2, y1, by omega⟩
def odG (h L : Nat → Int32) (n : Nat) : Prop := ∀ i, i < n → h (600 + i) = nI 0 ∨ L i ≠ nI 0
theorem odG_t {L : Nat → Int32} {i : Nat} (g : odG h L i) (c : h (600 + i) = nI 0 ∨ L i ≠ nI 0) : odG h L (i + 1) := fun j hj => by
  by_cases z : j = i
  · subst z; exact c
  · exact g j (by omega)
noncomputable def odF (h : Nat → Int32) (seed : Nat) (six : Int32) (k n : Nat) : Nat := cI (odG h (wrA h (nI (seed + k)) six (hN h 8)).2.2 (hN h 8)) (n + 1) n
theorem odF_t {seed k n : Nat} {six : Int32} (c : odG h (wrA h (nI (seed + k)) six (hN h 8)).2.2 (hN h 8)) : odF h seed six k n = n + 1 := cI_t c
theorem odF_f {seed k n : Nat} {six : Int32} (c : ¬ odG h (wrA h (nI (seed + k)) six (hN h 8)).2.2 (hN h 8)) : odF h seed six k n = n := cI_f c
theorem odF_le {seed : Nat} {six : Int32} : ∀ j, it (odF h seed six) 0 j ≤ j
  | 0 => Nat.le_refl _
  | j + 1 => by
    have := odF_le (seed := seed) (six := six) j
    rw [it_s]
    by_cases c : odG h (wrA h (nI (seed + j)) six (hN h 8)).2.2 (hN h 8)
    · rw [odF_t c]; omega
    · rw [odF_f c]; omega
set_option maxHeartbeats 8000000 in
theorem x_oddsL {seed k six : Nat} {P : Int32 → XS → Prop} {w q1 : Nat} (hk : k ≤ 20) (hsd : seed ≤ 10000) (k0 : K (a 0) = (1, 0)) (p10 : xr u (a 0) 10 = some (a 2)) (k2 : K (a 2) = (1, 4)) (pw : xr u (a 2) 2 = some w) (kw : K w = (1, 15)) (pq1 : xr u w 1 = some q1) (kq1 : K q1 = (2, hN h 8)) (h8 : hN h 8 ≤ 1250) (oq1 : ow q1 = 100) (v1 : ∀ k, k < hN h 8 → xi u q1 k = h (600 + k))
    (wc : ∀ k, k < hN h 8 → ∃ q, h (600 + k) = nI q ∧ q < 64) (p24 : xr u (a 0) 24 = some (a 20)) (k20 : K (a 20) = (2, 1400)) (o20 : ow (a 20) = 20)
    (hP : ∀ v, (∀ b k, b ≠ a 20 → xi v b k = xi u b k) → (∀ b k, xl v b k = xl u b k) → (∀ b k, xr v b k = xr u b k) → xw0_fraction (a 0) (nI (it (odF h seed (nI six)) 0 k)).toInt64 (nI k).toInt64 K v (fun r177 u177 => P (nI 1) u177)) : ∃ f, xw0_odds_L68 P K (a 0) (nI seed) (nI k) (nI six) f (nI 0) (nI 0) u := by
  have key := lp_st (fun f j v => xw0_odds_L68 P K (a 0) (nI seed) (nI k) (nI six) f (nI (it (odF h seed (nI six)) 0 j)) (nI j) v) (fun j v => (∀ b k, b ≠ a 20 → xi v b k = xi u b k) ∧ (∀ b k, xl v b k = xl u b k) ∧ ∀ b k, xr v b k = xr u b k) k 0 u (Nat.zero_le _) ⟨fun _ _ _ => rfl, fun _ _ => rfl, fun _ _ => rfl⟩ (fun f v hI => ?_) (fun f j v hj hI ih => ?_)
  · exact key
  · obtain ⟨hb, hl, hr⟩ := hI
    have hle : (nI k ≤ nI k) = True := n_le_t (Nat.le_refl _) (by omega)
    unfold xw0_odds_L68 xw0_odds_L68_S
    exact ⟨fun _ => ⟨k0, hP v hb hl hr⟩, fun z => absurd (by rw [hle]; trivial) z⟩
  · obtain ⟨hb, hl, hr⟩ := hI
    have nq : q1 ≠ a 20 := fun z => by rw [z] at oq1; omega
    have hgt : (nI k ≤ nI j) = False := n_le_f (by omega) (by omega)
    unfold xw0_odds_L68 xw0_odds_L68_S
    refine ⟨fun z => absurd z (by rw [hgt]; exact id), fun _ => ⟨k0, ?_⟩⟩
    rw [nI_add]
    refine x_wears (h := h) k0 (by rw [hr, p10]) k2 (by rw [hr, pw]) kw (by rw [hr, pq1]) kq1 h8 oq1 (fun i hi => by rw [hb _ _ nq, v1 i hi]) (by rw [hr, p24]) k20 o20 (fun v2 hq hb2 hl2 hr2 hv2 => ?_)
    have hlt := wrA_lt (h := h) (seed := nI (seed + j)) (six := nI six) (n := hN h 8) wc (hN h 8) (Nat.le_refl _)
    have pr : ∀ b i, xr v2 b i = xr u b i := fun b i => by rw [hr2, hr]
    have ih2 := ih v2 ⟨fun b i hb3 => by rw [hb2 _ _ hb3, hb _ _ hb3], fun b i => by rw [hl2, hl], pr⟩
    rw [it_s] at ih2
    have hcl := odF_le (h := h) (seed := seed) (six := nI six) j
    generalize it (odF h seed (nI six)) 0 j = cn at ih2 hcl ⊢
    have e1 : cI (odG h (wrA h (nI (seed + j)) (nI six) (hN h 8)).2.2 0) (nI 1) (nI 0) = nI 1 := cI_t (fun i hi => by omega)
    have inner := lp_up (fun f2 i => xw0_odds_L90 (xw0_odds_L68 P K (a 0) (nI seed) (nI k) (nI six) f) P K (a 0) (nI seed) (nI k) (nI six) (nI cn) (nI j) f2 (cI (odG h (wrA h (nI (seed + j)) (nI six) (hN h 8)).2.2 i) (nI 1) (nI 0)) (nI i) v2) (hN h 8) 0 (Nat.zero_le _) (fun f2 => ?_) (fun f2 i hi ih3 => ?_)
    · rw [e1] at inner
      exact inner
    · unfold xw0_odds_L90 xw0_odds_L90_S
      by_cases g : odG h (wrA h (nI (seed + j)) (nI six) (hN h 8)).2.2 (hN h 8)
      · rw [odF_t g] at ih2
        rw [cI_t g]
        simp (disch := omega) only [k0, pr, p10, k2, pw, kw, pq1, kq1, forall_eq, forall_eq', exists_eq_left, exists_eq_left', true_and, and_true, true_implies, false_implies, not_true_eq_false, not_false_eq_true, Prod.mk.injEq, Option.some.injEq, reduceCtorEq, and_self, implies_true, eq_self, Classical.not_not, and_false, false_and, ite_true, ite_false, reduceIte, bI_0, or_false, false_or, or_true, true_or, or_self, if_true, if_false, n_le_t, n_le_f, n_lt_t, n_lt_f, n_eq_t, n_eq_f, n_toInt, n_cl, n_vp, n_eqM, M_eqn, n_leM, n_ltM, M_len, M_ltn, M_add, n_sub, iM_toInt, x_lt_t, x_lt_f, x_le_t, x_le_f, lt_x_t, lt_x_f, le_x_t, le_x_f, x_eq_f, nI_add, pk_mul, bI_t, bI_f, Int32.toInt_toInt64, n_subI, x_add0, i_le_t, i_le_f, i_lt_t, i_lt_f, k_le_t, k_le_f, k_lt_t, k_lt_f, li_0, li_1, li_2, li_3, li_4, li_5, li_6, li_7, li_8, li_9, li_10, li_11, li_12, li_16, li_20, li_24, li_25, li_26, li_30, li_31, li_32, li_40, li_48, li_49, li_57, li_59, li_60, li_63, li_64, li_65, li_90, li_96, li_97, li_106, li_122, li_255, li_300, li_600, li_800, li_900, li_1850, li_2000, li_2010, li_2040, li_2801, li_3300, li_4161, li_9999, li_10163, li_16500, li_16800, li_17100, li_18350, li_18510, li_18540, li_65536, li_100000, li_999999, li_1000000, li_2147483647, im_1, im_8, ll_0, ll_1, ll_2, ll_3, ll_4, ll_6, ll_16, ll_20, ll_40, ll_63, ll_800, ll_9999, jm_same, jm_ob, jm_ok, jm_il, jm_li, jm_lsame, jm_lob, jm_lok, Nat.reduceAdd, Nat.reduceMul, Nat.zero_add, Nat.add_zero, Nat.mul_zero, Nat.zero_mul, e_mw_isSmall, e_mw_isDigit, e_mw_isDigit0, e_mw_isGreat, e_xs_isSmall, e_xs_isFigure, e_xs_isGreat, e_mw_isLetter, e_xs_isLetter, e_isBlank, e_xs_isBlank, e_isFrom, e_isIn]
        exact ih2
      · rw [odF_f g] at ih2
        rw [cI_f g]
        simp (disch := omega) only [k0, pr, p10, k2, pw, kw, pq1, kq1, forall_eq, forall_eq', exists_eq_left, exists_eq_left', true_and, and_true, true_implies, false_implies, not_true_eq_false, not_false_eq_true, Prod.mk.injEq, Option.some.injEq, reduceCtorEq, and_self, implies_true, eq_self, Classical.not_not, and_false, false_and, ite_true, ite_false, reduceIte, bI_0, or_false, false_or, or_true, true_or, or_self, if_true, if_false, n_le_t, n_le_f, n_lt_t, n_lt_f, n_eq_t, n_eq_f, n_toInt, n_cl, n_vp, n_eqM, M_eqn, n_leM, n_ltM, M_len, M_ltn, M_add, n_sub, iM_toInt, x_lt_t, x_lt_f, x_le_t, x_le_f, lt_x_t, lt_x_f, le_x_t, le_x_f, x_eq_f, nI_add, pk_mul, bI_t, bI_f, Int32.toInt_toInt64, n_subI, x_add0, i_le_t, i_le_f, i_lt_t, i_lt_f, k_le_t, k_le_f, k_lt_t, k_lt_f, li_0, li_1, li_2, li_3, li_4, li_5, li_6, li_7, li_8, li_9, li_10, li_11, li_12, li_16, li_20, li_24, li_25, li_26, li_30, li_31, li_32, li_40, li_48, li_49, li_57, li_59, li_60, li_63, li_64, li_65, li_90, li_96, li_97, li_106, li_122, li_255, li_300, li_600, li_800, li_900, li_1850, li_2000, li_2010, li_2040, li_2801, li_3300, li_4161, li_9999, li_10163, li_16500, li_16800, li_17100, li_18350, li_18510, li_18540, li_65536, li_100000, li_999999, li_1000000, li_2147483647, im_1, im_8, ll_0, ll_1, ll_2, ll_3, ll_4, ll_6, ll_16, ll_20, ll_40, ll_63, ll_800, ll_9999, jm_same, jm_ob, jm_ok, jm_il, jm_li, jm_lsame, jm_lob, jm_lok, Nat.reduceAdd, Nat.reduceMul, Nat.zero_add, Nat.add_zero, Nat.mul_zero, Nat.zero_mul, e_mw_isSmall, e_mw_isDigit, e_mw_isDigit0, e_mw_isGreat, e_xs_isSmall, e_xs_isFigure, e_xs_isGreat, e_mw_isLetter, e_xs_isLetter, e_isBlank, e_xs_isBlank, e_isFrom, e_isIn]
        exact ih2
    · have f1 : xi v2 q1 i = h (600 + i) := by rw [hb2 _ _ nq, hb _ _ nq, v1 i hi]
      obtain ⟨q, z1, z2⟩ := hlt i hi
      have f2' := hv2 i hi
      rw [z1] at f2'
      unfold xw0_odds_L90 xw0_odds_L90_S
      by_cases g : odG h (wrA h (nI (seed + j)) (nI six) (hN h 8)).2.2 i
      · rw [cI_t g]
        by_cases c : h (600 + i) = nI 0
        · rw [cI_t (odG_t g (Or.inl c))] at ih3
          rw [c] at f1
          simp (disch := omega) only [k0, pr, p10, k2, pw, kw, pq1, kq1, f1, forall_eq, forall_eq', exists_eq_left, exists_eq_left', true_and, and_true, true_implies, false_implies, not_true_eq_false, not_false_eq_true, Prod.mk.injEq, Option.some.injEq, reduceCtorEq, and_self, implies_true, eq_self, Classical.not_not, and_false, false_and, ite_true, ite_false, reduceIte, bI_0, or_false, false_or, or_true, true_or, or_self, if_true, if_false, n_le_t, n_le_f, n_lt_t, n_lt_f, n_eq_t, n_eq_f, n_toInt, n_cl, n_vp, n_eqM, M_eqn, n_leM, n_ltM, M_len, M_ltn, M_add, n_sub, iM_toInt, x_lt_t, x_lt_f, x_le_t, x_le_f, lt_x_t, lt_x_f, le_x_t, le_x_f, x_eq_f, nI_add, pk_mul, bI_t, bI_f, Int32.toInt_toInt64, n_subI, x_add0, i_le_t, i_le_f, i_lt_t, i_lt_f, k_le_t, k_le_f, k_lt_t, k_lt_f, li_0, li_1, li_2, li_3, li_4, li_5, li_6, li_7, li_8, li_9, li_10, li_11, li_12, li_16, li_20, li_24, li_25, li_26, li_30, li_31, li_32, li_40, li_48, li_49, li_57, li_59, li_60, li_63, li_64, li_65, li_90, li_96, li_97, li_106, li_122, li_255, li_300, li_600, li_800, li_900, li_1850, li_2000, li_2010, li_2040, li_2801, li_3300, li_4161, li_9999, li_10163, li_16500, li_16800, li_17100, li_18350, li_18510, li_18540, li_65536, li_100000, li_999999, li_1000000, li_2147483647, im_1, im_8, ll_0, ll_1, ll_2, ll_3, ll_4, ll_6, ll_16, ll_20, ll_40, ll_63, ll_800, ll_9999, jm_same, jm_ob, jm_ok, jm_il, jm_li, jm_lsame, jm_lob, jm_lok, Nat.reduceAdd, Nat.reduceMul, Nat.zero_add, Nat.add_zero, Nat.mul_zero, Nat.zero_mul, e_mw_isSmall, e_mw_isDigit, e_mw_isDigit0, e_mw_isGreat, e_xs_isSmall, e_xs_isFigure, e_xs_isGreat, e_mw_isLetter, e_xs_isLetter, e_isBlank, e_xs_isBlank, e_isFrom, e_isIn]
          exact ih3
        · by_cases cq : q = 0
          · have ng : ¬ odG h (wrA h (nI (seed + j)) (nI six) (hN h 8)).2.2 (i + 1) := fun y => by
              rcases y i (by omega) with z | z
              · exact c z
              · exact z (by rw [z1, cq])
            rw [cI_f ng] at ih3
            simp (disch := omega) only [k0, pr, p10, k2, pw, kw, pq1, kq1, f1, c, p24, k20, f2', forall_eq, forall_eq', exists_eq_left, exists_eq_left', true_and, and_true, true_implies, false_implies, not_true_eq_false, not_false_eq_true, Prod.mk.injEq, Option.some.injEq, reduceCtorEq, and_self, implies_true, eq_self, Classical.not_not, and_false, false_and, ite_true, ite_false, reduceIte, bI_0, or_false, false_or, or_true, true_or, or_self, if_true, if_false, n_le_t, n_le_f, n_lt_t, n_lt_f, n_eq_t, n_eq_f, n_toInt, n_cl, n_vp, n_eqM, M_eqn, n_leM, n_ltM, M_len, M_ltn, M_add, n_sub, iM_toInt, x_lt_t, x_lt_f, x_le_t, x_le_f, lt_x_t, lt_x_f, le_x_t, le_x_f, x_eq_f, nI_add, pk_mul, bI_t, bI_f, Int32.toInt_toInt64, n_subI, x_add0, i_le_t, i_le_f, i_lt_t, i_lt_f, k_le_t, k_le_f, k_lt_t, k_lt_f, li_0, li_1, li_2, li_3, li_4, li_5, li_6, li_7, li_8, li_9, li_10, li_11, li_12, li_16, li_20, li_24, li_25, li_26, li_30, li_31, li_32, li_40, li_48, li_49, li_57, li_59, li_60, li_63, li_64, li_65, li_90, li_96, li_97, li_106, li_122, li_255, li_300, li_600, li_800, li_900, li_1850, li_2000, li_2010, li_2040, li_2801, li_3300, li_4161, li_9999, li_10163, li_16500, li_16800, li_17100, li_18350, li_18510, li_18540, li_65536, li_100000, li_999999, li_1000000, li_2147483647, im_1, im_8, ll_0, ll_1, ll_2, ll_3, ll_4, ll_6, ll_16, ll_20, ll_40, ll_63, ll_800, ll_9999, jm_same, jm_ob, jm_ok, jm_il, jm_li, jm_lsame, jm_lob, jm_lok, Nat.reduceAdd, Nat.reduceMul, Nat.zero_add, Nat.add_zero, Nat.mul_zero, Nat.zero_mul, e_mw_isSmall, e_mw_isDigit, e_mw_isDigit0, e_mw_isGreat, e_xs_isSmall, e_xs_isFigure, e_xs_isGreat, e_mw_isLetter, e_xs_isLetter, e_isBlank, e_xs_isBlank, e_isFrom, e_isIn]
            exact ih3
          · rw [cI_t (odG_t g (Or.inr (by rw [z1]; exact fun z => cq ((nI_eq (by omega) (by omega)).mp z))))] at ih3
            simp (disch := omega) only [k0, pr, p10, k2, pw, kw, pq1, kq1, f1, c, p24, k20, f2', forall_eq, forall_eq', exists_eq_left, exists_eq_left', true_and, and_true, true_implies, false_implies, not_true_eq_false, not_false_eq_true, Prod.mk.injEq, Option.some.injEq, reduceCtorEq, and_self, implies_true, eq_self, Classical.not_not, and_false, false_and, ite_true, ite_false, reduceIte, bI_0, or_false, false_or, or_true, true_or, or_self, if_true, if_false, n_le_t, n_le_f, n_lt_t, n_lt_f, n_eq_t, n_eq_f, n_toInt, n_cl, n_vp, n_eqM, M_eqn, n_leM, n_ltM, M_len, M_ltn, M_add, n_sub, iM_toInt, x_lt_t, x_lt_f, x_le_t, x_le_f, lt_x_t, lt_x_f, le_x_t, le_x_f, x_eq_f, nI_add, pk_mul, bI_t, bI_f, Int32.toInt_toInt64, n_subI, x_add0, i_le_t, i_le_f, i_lt_t, i_lt_f, k_le_t, k_le_f, k_lt_t, k_lt_f, li_0, li_1, li_2, li_3, li_4, li_5, li_6, li_7, li_8, li_9, li_10, li_11, li_12, li_16, li_20, li_24, li_25, li_26, li_30, li_31, li_32, li_40, li_48, li_49, li_57, li_59, li_60, li_63, li_64, li_65, li_90, li_96, li_97, li_106, li_122, li_255, li_300, li_600, li_800, li_900, li_1850, li_2000, li_2010, li_2040, li_2801, li_3300, li_4161, li_9999, li_10163, li_16500, li_16800, li_17100, li_18350, li_18510, li_18540, li_65536, li_100000, li_999999, li_1000000, li_2147483647, im_1, im_8, ll_0, ll_1, ll_2, ll_3, ll_4, ll_6, ll_16, ll_20, ll_40, ll_63, ll_800, ll_9999, jm_same, jm_ob, jm_ok, jm_il, jm_li, jm_lsame, jm_lob, jm_lok, Nat.reduceAdd, Nat.reduceMul, Nat.zero_add, Nat.add_zero, Nat.mul_zero, Nat.zero_mul, e_mw_isSmall, e_mw_isDigit, e_mw_isDigit0, e_mw_isGreat, e_xs_isSmall, e_xs_isFigure, e_xs_isGreat, e_mw_isLetter, e_xs_isLetter, e_isBlank, e_xs_isBlank, e_isFrom, e_isIn]
            exact ih3
      · have ng : ¬ odG h (wrA h (nI (seed + j)) (nI six) (hN h 8)).2.2 (i + 1) := fun y => g (fun t ht => y t (by omega))
        rw [cI_f ng] at ih3
        rw [cI_f g]
        simp (disch := omega) only [k0, pr, p10, k2, pw, kw, pq1, kq1, forall_eq, forall_eq', exists_eq_left, exists_eq_left', true_and, and_true, true_implies, false_implies, not_true_eq_false, not_false_eq_true, Prod.mk.injEq, Option.some.injEq, reduceCtorEq, and_self, implies_true, eq_self, Classical.not_not, and_false, false_and, ite_true, ite_false, reduceIte, bI_0, or_false, false_or, or_true, true_or, or_self, if_true, if_false, n_le_t, n_le_f, n_lt_t, n_lt_f, n_eq_t, n_eq_f, n_toInt, n_cl, n_vp, n_eqM, M_eqn, n_leM, n_ltM, M_len, M_ltn, M_add, n_sub, iM_toInt, x_lt_t, x_lt_f, x_le_t, x_le_f, lt_x_t, lt_x_f, le_x_t, le_x_f, x_eq_f, nI_add, pk_mul, bI_t, bI_f, Int32.toInt_toInt64, n_subI, x_add0, i_le_t, i_le_f, i_lt_t, i_lt_f, k_le_t, k_le_f, k_lt_t, k_lt_f, li_0, li_1, li_2, li_3, li_4, li_5, li_6, li_7, li_8, li_9, li_10, li_11, li_12, li_16, li_20, li_24, li_25, li_26, li_30, li_31, li_32, li_40, li_48, li_49, li_57, li_59, li_60, li_63, li_64, li_65, li_90, li_96, li_97, li_106, li_122, li_255, li_300, li_600, li_800, li_900, li_1850, li_2000, li_2010, li_2040, li_2801, li_3300, li_4161, li_9999, li_10163, li_16500, li_16800, li_17100, li_18350, li_18510, li_18540, li_65536, li_100000, li_999999, li_1000000, li_2147483647, im_1, im_8, ll_0, ll_1, ll_2, ll_3, ll_4, ll_6, ll_16, ll_20, ll_40, ll_63, ll_800, ll_9999, jm_same, jm_ob, jm_ok, jm_il, jm_li, jm_lsame, jm_lob, jm_lok, Nat.reduceAdd, Nat.reduceMul, Nat.zero_add, Nat.add_zero, Nat.mul_zero, Nat.zero_mul, e_mw_isSmall, e_mw_isDigit, e_mw_isDigit0, e_mw_isGreat, e_xs_isSmall, e_xs_isFigure, e_xs_isGreat, e_mw_isLetter, e_xs_isLetter, e_isBlank, e_xs_isBlank, e_isFrom, e_isIn]
        exact ih3
set_option maxHeartbeats 8000000 in
theorem m_oddsL {seed k six : Nat} {P : Int32 → MS → Prop} (hk : k ≤ 20) (hsd : seed ≤ 10000) (hv0 : ∀ k, k < 3300 → jm_i n 1 k = h k) (w8 : h 8 = nI (hN h 8)) (h8 : hN h 8 ≤ 1250) (wc : ∀ k, k < hN h 8 → ∃ q, h (600 + k) = nI q ∧ q < 64)
    (hP : ∀ v, (∀ b k, ¬ (b = 0 ∧ k = 41) → b ≠ 21 → jm_i v b k = jm_i n b k) → (∀ b k, jm_l v b k = jm_l n b k) → mw_tellsBy (nI (it (odF h seed (nI six)) 0 k)).toInt64 (nI k).toInt64 v (fun r186 u186 => P r186 u186)) : ∃ f, mw_odds_L73 P (nI seed) (nI k) (nI six) f (nI 0) (nI 0) n := by
  have key := lp_st (fun f j v => mw_odds_L73 P (nI seed) (nI k) (nI six) f (nI (it (odF h seed (nI six)) 0 j)) (nI j) v) (fun j v => (∀ b k, ¬ (b = 0 ∧ k = 41) → b ≠ 21 → jm_i v b k = jm_i n b k) ∧ (∀ b k, jm_l v b k = jm_l n b k)) k 0 n (Nat.zero_le _) ⟨fun _ _ _ _ => rfl, fun _ _ => rfl⟩ (fun f v hI => ?_) (fun f j v hj hI ih => ?_)
  · exact key
  · have hle : (nI k ≤ nI k) = True := n_le_t (Nat.le_refl _) (by omega)
    unfold mw_odds_L73 mw_odds_L73_S
    exact ⟨fun _ => hP v hI.1 hI.2, fun z => absurd (by rw [hle]; trivial) z⟩
  · obtain ⟨hb, hl⟩ := hI
    have hgt : (nI k ≤ nI j) = False := n_le_f (by omega) (by omega)
    unfold mw_odds_L73 mw_odds_L73_S
    refine ⟨fun z => absurd z (by rw [hgt]; exact id), fun _ => ?_⟩
    rw [nI_add]
    refine m_wears (h := h) (fun i hi => by rw [hb _ _ (by omega) (by omega), hv0 i hi]) w8 h8 (fun v2 hb2 hl2 hv2 => ?_)
    have hlt := wrA_lt (h := h) (seed := nI (seed + j)) (six := nI six) (n := hN h 8) wc (hN h 8) (Nat.le_refl _)
    obtain ⟨gn, gn1, gn2⟩ := wrA_g (h := h) (seed := nI (seed + j)) (six := nI six) (hN h 8)
    have ih2 := ih v2 ⟨fun b i y1 y2 => by rw [hb2 _ _ y1 y2, hb _ _ y1 y2], fun b i => by rw [hl2, hl]⟩
    have e8 : jm_i v2 1 8 = nI (hN h 8) := by rw [hb2 _ _ (by omega) (by omega), hb _ _ (by omega) (by omega), hv0 _ (by omega), w8]
    rw [it_s] at ih2
    have hcl := odF_le (h := h) (seed := seed) (six := nI six) j
    generalize it (odF h seed (nI six)) 0 j = cn at ih2 hcl ⊢
    rw [gn1]
    refine ⟨fun z => absurd z (nI_pos (by omega)), fun _ => ?_⟩
    have e1 : cI (odG h (wrA h (nI (seed + j)) (nI six) (hN h 8)).2.2 0) (nI 1) (nI 0) = nI 1 := cI_t (fun i hi => by omega)
    have inner := lp_up (fun f2 i => mw_odds_L105 (mw_odds_L73 P (nI seed) (nI k) (nI six) f) P (nI seed) (nI k) (nI six) (nI cn) (nI j) f2 (cI (odG h (wrA h (nI (seed + j)) (nI six) (hN h 8)).2.2 i) (nI 1) (nI 0)) (nI i) v2) (hN h 8) 0 (Nat.zero_le _) (fun f2 => ?_) (fun f2 i hi ih3 => ?_)
    · rw [e1] at inner
      exact inner
    · unfold mw_odds_L105 mw_odds_L105_S
      by_cases g : odG h (wrA h (nI (seed + j)) (nI six) (hN h 8)).2.2 (hN h 8)
      · rw [odF_t g] at ih2
        rw [cI_t g]
        simp (disch := omega) only [e8, forall_eq, forall_eq', exists_eq_left, exists_eq_left', true_and, and_true, true_implies, false_implies, not_true_eq_false, not_false_eq_true, Prod.mk.injEq, Option.some.injEq, reduceCtorEq, and_self, implies_true, eq_self, Classical.not_not, and_false, false_and, ite_true, ite_false, reduceIte, bI_0, or_false, false_or, or_true, true_or, or_self, if_true, if_false, n_le_t, n_le_f, n_lt_t, n_lt_f, n_eq_t, n_eq_f, n_toInt, n_cl, n_vp, n_eqM, M_eqn, n_leM, n_ltM, M_len, M_ltn, M_add, n_sub, iM_toInt, x_lt_t, x_lt_f, x_le_t, x_le_f, lt_x_t, lt_x_f, le_x_t, le_x_f, x_eq_f, nI_add, pk_mul, bI_t, bI_f, Int32.toInt_toInt64, n_subI, x_add0, i_le_t, i_le_f, i_lt_t, i_lt_f, k_le_t, k_le_f, k_lt_t, k_lt_f, li_0, li_1, li_2, li_3, li_4, li_5, li_6, li_7, li_8, li_9, li_10, li_11, li_12, li_16, li_20, li_24, li_25, li_26, li_30, li_31, li_32, li_40, li_48, li_49, li_57, li_59, li_60, li_63, li_64, li_65, li_90, li_96, li_97, li_106, li_122, li_255, li_300, li_600, li_800, li_900, li_1850, li_2000, li_2010, li_2040, li_2801, li_3300, li_4161, li_9999, li_10163, li_16500, li_16800, li_17100, li_18350, li_18510, li_18540, li_65536, li_100000, li_999999, li_1000000, li_2147483647, im_1, im_8, ll_0, ll_1, ll_2, ll_3, ll_4, ll_6, ll_16, ll_20, ll_40, ll_63, ll_800, ll_9999, jm_same, jm_ob, jm_ok, jm_il, jm_li, jm_lsame, jm_lob, jm_lok, Nat.reduceAdd, Nat.reduceMul, Nat.zero_add, Nat.add_zero, Nat.mul_zero, Nat.zero_mul, e_mw_isSmall, e_mw_isDigit, e_mw_isDigit0, e_mw_isGreat, e_xs_isSmall, e_xs_isFigure, e_xs_isGreat, e_mw_isLetter, e_xs_isLetter, e_isBlank, e_xs_isBlank, e_isFrom, e_isIn]
        exact ih2
      · rw [odF_f g] at ih2
        rw [cI_f g]
        simp (disch := omega) only [e8, forall_eq, forall_eq', exists_eq_left, exists_eq_left', true_and, and_true, true_implies, false_implies, not_true_eq_false, not_false_eq_true, Prod.mk.injEq, Option.some.injEq, reduceCtorEq, and_self, implies_true, eq_self, Classical.not_not, and_false, false_and, ite_true, ite_false, reduceIte, bI_0, or_false, false_or, or_true, true_or, or_self, if_true, if_false, n_le_t, n_le_f, n_lt_t, n_lt_f, n_eq_t, n_eq_f, n_toInt, n_cl, n_vp, n_eqM, M_eqn, n_leM, n_ltM, M_len, M_ltn, M_add, n_sub, iM_toInt, x_lt_t, x_lt_f, x_le_t, x_le_f, lt_x_t, lt_x_f, le_x_t, le_x_f, x_eq_f, nI_add, pk_mul, bI_t, bI_f, Int32.toInt_toInt64, n_subI, x_add0, i_le_t, i_le_f, i_lt_t, i_lt_f, k_le_t, k_le_f, k_lt_t, k_lt_f, li_0, li_1, li_2, li_3, li_4, li_5, li_6, li_7, li_8, li_9, li_10, li_11, li_12, li_16, li_20, li_24, li_25, li_26, li_30, li_31, li_32, li_40, li_48, li_49, li_57, li_59, li_60, li_63, li_64, li_65, li_90, li_96, li_97, li_106, li_122, li_255, li_300, li_600, li_800, li_900, li_1850, li_2000, li_2010, li_2040, li_2801, li_3300, li_4161, li_9999, li_10163, li_16500, li_16800, li_17100, li_18350, li_18510, li_18540, li_65536, li_100000, li_999999, li_1000000, li_2147483647, im_1, im_8, ll_0, ll_1, ll_2, ll_3, ll_4, ll_6, ll_16, ll_20, ll_40, ll_63, ll_800, ll_9999, jm_same, jm_ob, jm_ok, jm_il, jm_li, jm_lsame, jm_lob, jm_lok, Nat.reduceAdd, Nat.reduceMul, Nat.zero_add, Nat.add_zero, Nat.mul_zero, Nat.zero_mul, e_mw_isSmall, e_mw_isDigit, e_mw_isDigit0, e_mw_isGreat, e_xs_isSmall, e_xs_isFigure, e_xs_isGreat, e_mw_isLetter, e_xs_isLetter, e_isBlank, e_xs_isBlank, e_isFrom, e_isIn]
        exact ih2
    · have f1 : jm_i v2 1 (600 + i) = h (600 + i) := by rw [hb2 _ _ (by omega) (by omega), hb _ _ (by omega) (by omega), hv0 _ (by omega)]
      obtain ⟨q, z1, z2⟩ := hlt i hi
      have f2' := hv2 i hi
      rw [z1] at f2'
      unfold mw_odds_L105 mw_odds_L105_S
      by_cases g : odG h (wrA h (nI (seed + j)) (nI six) (hN h 8)).2.2 i
      · rw [cI_t g]
        by_cases c : h (600 + i) = nI 0
        · rw [cI_t (odG_t g (Or.inl c))] at ih3
          rw [c] at f1
          simp (disch := omega) only [e8, f1, forall_eq, forall_eq', exists_eq_left, exists_eq_left', true_and, and_true, true_implies, false_implies, not_true_eq_false, not_false_eq_true, Prod.mk.injEq, Option.some.injEq, reduceCtorEq, and_self, implies_true, eq_self, Classical.not_not, and_false, false_and, ite_true, ite_false, reduceIte, bI_0, or_false, false_or, or_true, true_or, or_self, if_true, if_false, n_le_t, n_le_f, n_lt_t, n_lt_f, n_eq_t, n_eq_f, n_toInt, n_cl, n_vp, n_eqM, M_eqn, n_leM, n_ltM, M_len, M_ltn, M_add, n_sub, iM_toInt, x_lt_t, x_lt_f, x_le_t, x_le_f, lt_x_t, lt_x_f, le_x_t, le_x_f, x_eq_f, nI_add, pk_mul, bI_t, bI_f, Int32.toInt_toInt64, n_subI, x_add0, i_le_t, i_le_f, i_lt_t, i_lt_f, k_le_t, k_le_f, k_lt_t, k_lt_f, li_0, li_1, li_2, li_3, li_4, li_5, li_6, li_7, li_8, li_9, li_10, li_11, li_12, li_16, li_20, li_24, li_25, li_26, li_30, li_31, li_32, li_40, li_48, li_49, li_57, li_59, li_60, li_63, li_64, li_65, li_90, li_96, li_97, li_106, li_122, li_255, li_300, li_600, li_800, li_900, li_1850, li_2000, li_2010, li_2040, li_2801, li_3300, li_4161, li_9999, li_10163, li_16500, li_16800, li_17100, li_18350, li_18510, li_18540, li_65536, li_100000, li_999999, li_1000000, li_2147483647, im_1, im_8, ll_0, ll_1, ll_2, ll_3, ll_4, ll_6, ll_16, ll_20, ll_40, ll_63, ll_800, ll_9999, jm_same, jm_ob, jm_ok, jm_il, jm_li, jm_lsame, jm_lob, jm_lok, Nat.reduceAdd, Nat.reduceMul, Nat.zero_add, Nat.add_zero, Nat.mul_zero, Nat.zero_mul, e_mw_isSmall, e_mw_isDigit, e_mw_isDigit0, e_mw_isGreat, e_xs_isSmall, e_xs_isFigure, e_xs_isGreat, e_mw_isLetter, e_xs_isLetter, e_isBlank, e_xs_isBlank, e_isFrom, e_isIn]
          exact ih3
        · by_cases cq : q = 0
          · have ng : ¬ odG h (wrA h (nI (seed + j)) (nI six) (hN h 8)).2.2 (i + 1) := fun y => by
              rcases y i (by omega) with z | z
              · exact c z
              · exact z (by rw [z1, cq])
            rw [cI_f ng] at ih3
            simp (disch := omega) only [e8, f1, c, f2', forall_eq, forall_eq', exists_eq_left, exists_eq_left', true_and, and_true, true_implies, false_implies, not_true_eq_false, not_false_eq_true, Prod.mk.injEq, Option.some.injEq, reduceCtorEq, and_self, implies_true, eq_self, Classical.not_not, and_false, false_and, ite_true, ite_false, reduceIte, bI_0, or_false, false_or, or_true, true_or, or_self, if_true, if_false, n_le_t, n_le_f, n_lt_t, n_lt_f, n_eq_t, n_eq_f, n_toInt, n_cl, n_vp, n_eqM, M_eqn, n_leM, n_ltM, M_len, M_ltn, M_add, n_sub, iM_toInt, x_lt_t, x_lt_f, x_le_t, x_le_f, lt_x_t, lt_x_f, le_x_t, le_x_f, x_eq_f, nI_add, pk_mul, bI_t, bI_f, Int32.toInt_toInt64, n_subI, x_add0, i_le_t, i_le_f, i_lt_t, i_lt_f, k_le_t, k_le_f, k_lt_t, k_lt_f, li_0, li_1, li_2, li_3, li_4, li_5, li_6, li_7, li_8, li_9, li_10, li_11, li_12, li_16, li_20, li_24, li_25, li_26, li_30, li_31, li_32, li_40, li_48, li_49, li_57, li_59, li_60, li_63, li_64, li_65, li_90, li_96, li_97, li_106, li_122, li_255, li_300, li_600, li_800, li_900, li_1850, li_2000, li_2010, li_2040, li_2801, li_3300, li_4161, li_9999, li_10163, li_16500, li_16800, li_17100, li_18350, li_18510, li_18540, li_65536, li_100000, li_999999, li_1000000, li_2147483647, im_1, im_8, ll_0, ll_1, ll_2, ll_3, ll_4, ll_6, ll_16, ll_20, ll_40, ll_63, ll_800, ll_9999, jm_same, jm_ob, jm_ok, jm_il, jm_li, jm_lsame, jm_lob, jm_lok, Nat.reduceAdd, Nat.reduceMul, Nat.zero_add, Nat.add_zero, Nat.mul_zero, Nat.zero_mul, e_mw_isSmall, e_mw_isDigit, e_mw_isDigit0, e_mw_isGreat, e_xs_isSmall, e_xs_isFigure, e_xs_isGreat, e_mw_isLetter, e_xs_isLetter, e_isBlank, e_xs_isBlank, e_isFrom, e_isIn]
            exact ih3
          · rw [cI_t (odG_t g (Or.inr (by rw [z1]; exact fun z => cq ((nI_eq (by omega) (by omega)).mp z))))] at ih3
            simp (disch := omega) only [e8, f1, c, f2', forall_eq, forall_eq', exists_eq_left, exists_eq_left', true_and, and_true, true_implies, false_implies, not_true_eq_false, not_false_eq_true, Prod.mk.injEq, Option.some.injEq, reduceCtorEq, and_self, implies_true, eq_self, Classical.not_not, and_false, false_and, ite_true, ite_false, reduceIte, bI_0, or_false, false_or, or_true, true_or, or_self, if_true, if_false, n_le_t, n_le_f, n_lt_t, n_lt_f, n_eq_t, n_eq_f, n_toInt, n_cl, n_vp, n_eqM, M_eqn, n_leM, n_ltM, M_len, M_ltn, M_add, n_sub, iM_toInt, x_lt_t, x_lt_f, x_le_t, x_le_f, lt_x_t, lt_x_f, le_x_t, le_x_f, x_eq_f, nI_add, pk_mul, bI_t, bI_f, Int32.toInt_toInt64, n_subI, x_add0, i_le_t, i_le_f, i_lt_t, i_lt_f, k_le_t, k_le_f, k_lt_t, k_lt_f, li_0, li_1, li_2, li_3, li_4, li_5, li_6, li_7, li_8, li_9, li_10, li_11, li_12, li_16, li_20, li_24, li_25, li_26, li_30, li_31, li_32, li_40, li_48, li_49, li_57, li_59, li_60, li_63, li_64, li_65, li_90, li_96, li_97, li_106, li_122, li_255, li_300, li_600, li_800, li_900, li_1850, li_2000, li_2010, li_2040, li_2801, li_3300, li_4161, li_9999, li_10163, li_16500, li_16800, li_17100, li_18350, li_18510, li_18540, li_65536, li_100000, li_999999, li_1000000, li_2147483647, im_1, im_8, ll_0, ll_1, ll_2, ll_3, ll_4, ll_6, ll_16, ll_20, ll_40, ll_63, ll_800, ll_9999, jm_same, jm_ob, jm_ok, jm_il, jm_li, jm_lsame, jm_lob, jm_lok, Nat.reduceAdd, Nat.reduceMul, Nat.zero_add, Nat.add_zero, Nat.mul_zero, Nat.zero_mul, e_mw_isSmall, e_mw_isDigit, e_mw_isDigit0, e_mw_isGreat, e_xs_isSmall, e_xs_isFigure, e_xs_isGreat, e_mw_isLetter, e_xs_isLetter, e_isBlank, e_xs_isBlank, e_isFrom, e_isIn]
            exact ih3
      · have ng : ¬ odG h (wrA h (nI (seed + j)) (nI six) (hN h 8)).2.2 (i + 1) := fun y => g (fun t ht => y t (by omega))
        rw [cI_f ng] at ih3
        rw [cI_f g]
        simp (disch := omega) only [e8, forall_eq, forall_eq', exists_eq_left, exists_eq_left', true_and, and_true, true_implies, false_implies, not_true_eq_false, not_false_eq_true, Prod.mk.injEq, Option.some.injEq, reduceCtorEq, and_self, implies_true, eq_self, Classical.not_not, and_false, false_and, ite_true, ite_false, reduceIte, bI_0, or_false, false_or, or_true, true_or, or_self, if_true, if_false, n_le_t, n_le_f, n_lt_t, n_lt_f, n_eq_t, n_eq_f, n_toInt, n_cl, n_vp, n_eqM, M_eqn, n_leM, n_ltM, M_len, M_ltn, M_add, n_sub, iM_toInt, x_lt_t, x_lt_f, x_le_t, x_le_f, lt_x_t, lt_x_f, le_x_t, le_x_f, x_eq_f, nI_add, pk_mul, bI_t, bI_f, Int32.toInt_toInt64, n_subI, x_add0, i_le_t, i_le_f, i_lt_t, i_lt_f, k_le_t, k_le_f, k_lt_t, k_lt_f, li_0, li_1, li_2, li_3, li_4, li_5, li_6, li_7, li_8, li_9, li_10, li_11, li_12, li_16, li_20, li_24, li_25, li_26, li_30, li_31, li_32, li_40, li_48, li_49, li_57, li_59, li_60, li_63, li_64, li_65, li_90, li_96, li_97, li_106, li_122, li_255, li_300, li_600, li_800, li_900, li_1850, li_2000, li_2010, li_2040, li_2801, li_3300, li_4161, li_9999, li_10163, li_16500, li_16800, li_17100, li_18350, li_18510, li_18540, li_65536, li_100000, li_999999, li_1000000, li_2147483647, im_1, im_8, ll_0, ll_1, ll_2, ll_3, ll_4, ll_6, ll_16, ll_20, ll_40, ll_63, ll_800, ll_9999, jm_same, jm_ob, jm_ok, jm_il, jm_li, jm_lsame, jm_lob, jm_lok, Nat.reduceAdd, Nat.reduceMul, Nat.zero_add, Nat.add_zero, Nat.mul_zero, Nat.zero_mul, e_mw_isSmall, e_mw_isDigit, e_mw_isDigit0, e_mw_isGreat, e_xs_isSmall, e_xs_isFigure, e_xs_isGreat, e_mw_isLetter, e_xs_isLetter, e_isBlank, e_xs_isBlank, e_isFrom, e_isIn]
        exact ih3
end XCJ
