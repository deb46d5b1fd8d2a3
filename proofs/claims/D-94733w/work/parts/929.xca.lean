/-! PLAIN LAW: truths: the walk over the readings, the component -/
set_option linter.unusedVariables false
section TRB
variable {a : Nat → Nat} {K K2 : XK} {ow ow2 : Nat → Nat} {u v : XS} {m : MS} {A F b : Nat → Int32} {W : Nat → Nat} {many e : Nat}
/-- what is looked at: the row, what fails, the ways, the text so far -/
def TRI (a : Nat → Nat) (m : MS) (A F : Nat → Int32) (W : Nat → Nat) (many e : Nat) (b : Nat → Int32) (K : XK) (ow : Nat → Nat) (u : XS) : Prop :=
  Rep a K ow u m ∧ (∀ k, k < many → xi u (a 14) k = A k) ∧ (∀ k, k < many → xi u (a 15) k = F k) ∧ (∀ k, k ≤ many → xi u (a 16) k = nI (W k)) ∧ ∀ k, k < e → xi u (a 17) k = b k
theorem TRI.z (hI : TRI a m A F W many e b K ow u) (hX : XZ (a 0) e K ow u K2 ow2 v) (hR : Rep a K2 ow2 v m) : TRI a m A F W many e b K2 ow2 v := by
  obtain ⟨h1, h2, h3, h4, h5⟩ := hI
  have o14 : ow (a 14) = 14 := h1.1.2.1 14 (by omega)
  have o15 : ow (a 15) = 15 := h1.1.2.1 15 (by omega)
  have o16 : ow (a 16) = 16 := h1.1.2.1 16 (by omega)
  have o17 : ow (a 17) = 17 := h1.1.2.1 17 (by omega)
  have k14 := h1.1.nz (i := 14) (by omega)
  have k15 := h1.1.nz (i := 15) (by omega)
  have k16 := h1.1.nz (i := 16) (by omega)
  have k17 := h1.1.nz (i := 17) (by omega)
  exact ⟨hR, fun k hk => by rw [hX.2.1 _ _ k14 (by omega) (by omega) (by omega), h2 k hk], fun k hk => by rw [hX.2.1 _ _ k15 (by omega) (by omega) (by omega), h3 k hk], fun k hk => by rw [hX.2.1 _ _ k16 (by omega) (by omega) (by omega), h4 k hk], fun k hk => by rw [hX.2.1 _ _ k17 (by omega) (by omega) (by omega), h5 k hk]⟩
theorem xcp_cu {c s p d k : Nat} (hc : XCu a u) : XCu a (xcp u s p c d k) := hc
theorem cI_n {c : Prop} {P : Nat → Prop} (h : P (cI c 1 0)) : (c → P 1) ∧ (¬ c → P 0) := ⟨fun z => by rw [cI_t z] at h; exact h, fun z => by rw [cI_f z] at h; exact h⟩
theorem x_leaf {p f mc ms : Nat} {P : Int32 → XK → XS → Prop} (RR : Nat → Int32 → Int32 → Int32 → XK → XS → Nat → Nat → (Int32 → XK → XS → Prop) → Prop) (hm : many ≤ 20) (hp : p = many) (he : e ≤ 120) (hI : TRI a m A F W many e b K ow u) (hc : XCu a u ∨ ¬ lfD (sl m 0) A F W many f p ∨ (11 ≤ mc ∧ 7200 ≤ ms))
    (hP : ∀ K2 ow2 v, XZ (a 0) e K ow u K2 ow2 v → Rep a K2 ow2 v m → (XCu a u ∨ lfD (sl m 0) A F W many f p → XCu a v) → P (nI (tcD (sl m 0) A F W many f p e b)) K2 v) : xw0_truthsFrom_S RR (a 0) (nI p) (nI e) (nI many) K u mc ms P := by
  unfold xw0_truthsFrom_S
  refine ⟨fun z => absurd (by rw [hp]) z, fun _ => ⟨hI.1.1.1.1, mc, ms, Nat.le_refl _, Nat.le_refl _, x_isTrue hI.1 hm he hI.2.1 hI.2.2.2.2 ?_ (fun K2 ow2 v hX hR hC => ?_)⟩⟩
  · rcases hc with hc | hc | hc
    · exact Or.inl hc
    · exact absurd (lfD_m hp) hc
    · exact Or.inr hc
  · have hP2 := hP K2 ow2 v hX hR (fun _ => hC)
    rw [tcD_m hp] at hP2
    by_cases c : isTr (sl m 0) A many b e
    · rw [cI_t c] at hP2 ⊢
      exact ⟨fun z => absurd z (by decide), fun _ => hP2⟩
    · rw [cI_f c] at hP2 ⊢
      exact ⟨fun _ => hP2, fun z => absurd rfl z⟩
set_option maxHeartbeats 16000000 in
theorem x_trF (hW : ∀ k, W k ≤ 999999) (hm : many ≤ 20) : ∀ f p e b mc ms K ow u (P : Int32 → XK → XS → Prop), many ≤ p + f → p ≤ many → e ≤ 6 * p → TRI a m A F W many e b K ow u → (XCu a u ∨ ¬ lfD (sl m 0) A F W many f p ∨ (11 ≤ mc ∧ 7200 ≤ ms)) →
    (∀ K2 ow2 v, XZ (a 0) e K ow u K2 ow2 v → Rep a K2 ow2 v m → (XCu a u ∨ lfD (sl m 0) A F W many f p → XCu a v) → P (nI (tcD (sl m 0) A F W many f p e b)) K2 v) → xw0_truthsFrom (f + 1) (a 0) (nI p) (nI e) (nI many) K u mc ms P := by
  intro f
  induction f with
  | zero =>
    intro p e b mc ms K ow u P h1 h2 h3 hI hc hP
    unfold xw0_truthsFrom
    exact x_leaf _ hm (by omega) (by omega) hI hc hP
  | succ f IH =>
    intro p e b mc ms K ow u P h1 h2 h3 hI hc hP
    by_cases hp : p = many
    · rw [xw0_truthsFrom]
      exact x_leaf _ hm hp (by omega) hI hc hP
    rw [xw0_truthsFrom]
    unfold xw0_truthsFrom_S
    refine ⟨fun _ => ?_, fun z => absurd z (by rw [n_eq_f hp (by omega) (by omega)]; exact id)⟩
    have hT : WT (sl m 0) := hI.1.2.2.2.1.1
    have key : ∀ d r K' ow' u' c s, r + d = hN (sl m 0) 0 → XZ (a 0) e K ow u K' ow' u' → TRI a m A F W many e b K' ow' u' →
        ((XCu a u' ∧ c ≤ mc ∧ s ≤ ms) ∨ (c = 0 ∧ s = 0 ∧ ¬ XCu a u ∧ ∀ r2, r2 < r → ¬ (nxR (sl m 0) A F W many p r2 ∧ lfD (sl m 0) A F W many f (p + hN (sl m 0) (12 + 12 * r2 + 7))))) →
        xw0_truthsFrom_L26 (xw0_truthsFrom (f + 1)) P mc ms (a 0) (nI p) (nI e) (nI many) (d + 1) (nI (it (tcI (sl m 0) A F W many f p e b) 0 r)) (nI r) K' u' c s := by
      intro d
      induction d with
      | zero =>
        intro r K' ow' u' c s hr hX hI2 hc2
        obtain ⟨tb, ptb, ⟨ra, ktb, _, _, _, _, f1, _⟩⟩ := hI2.1.2.2.2.1.2.2.2.1
        have p10 := hI2.1.1.2.2.1.2.2.2.2.1
        have k2 := hI2.1.1.1.2.2.1
        have k0 := hI2.1.1.1.1
        have g0 := hT.1.1
        have er : r = hN (sl m 0) 0 := by omega
        have hP2 := hP K' ow' u' hX hI2.1 (fun z => by
          rcases hc2 with hc2 | ⟨_, _, hn, hl⟩
          · exact hc2.1
          · rcases z with z | z
            · exact absurd z hn
            · rcases z with z | ⟨r2, z1, z2⟩
              · exact absurd z hp
              · exact absurd z2 (hl r2 (by omega)))
        rw [tcD_s hp, ← er] at hP2
        generalize it (tcI (sl m 0) A F W many f p e b) 0 r = x at hP2 ⊢
        subst er
        unfold xw0_truthsFrom_L26 xw0_truthsFrom_L26_S
        simp (disch := omega) only [xw0_table, k0, p10, k2, ptb, ktb, f1, g0, forall_eq, forall_eq', exists_eq_left, exists_eq_left', true_and, and_true, true_implies, false_implies, not_true_eq_false, not_false_eq_true, Prod.mk.injEq, Option.some.injEq, reduceCtorEq, and_self, implies_true, eq_self, Classical.not_not, and_false, false_and, ite_true, ite_false, reduceIte, bI_0, or_false, false_or, or_true, true_or, or_self, if_true, if_false, n_le_t, n_le_f, n_lt_t, n_lt_f, n_eq_t, n_eq_f, n_toInt, n_cl, n_vp, n_eqM, M_eqn, n_leM, n_ltM, M_len, M_ltn, M_add, n_sub, iM_toInt, x_lt_t, x_lt_f, x_le_t, x_le_f, lt_x_t, lt_x_f, le_x_t, le_x_f, x_eq_f, nI_add, pk_mul, bI_t, bI_f, Int32.toInt_toInt64, n_subI, x_add0, i_le_t, i_le_f, i_lt_t, i_lt_f, k_le_t, k_le_f, k_lt_t, k_lt_f, li_0, li_1, li_2, li_3, li_4, li_5, li_6, li_7, li_8, li_9, li_10, li_11, li_12, li_16, li_20, li_24, li_25, li_26, li_30, li_31, li_32, li_40, li_48, li_49, li_57, li_59, li_60, li_63, li_64, li_65, li_90, li_96, li_97, li_106, li_122, li_255, li_300, li_600, li_800, li_900, li_1850, li_2000, li_2010, li_2040, li_2801, li_3300, li_4161, li_9999, li_10163, li_16500, li_16800, li_17100, li_18350, li_18510, li_18540, li_65536, li_100000, li_999999, li_1000000, li_2147483647, im_1, im_8, ll_0, ll_1, ll_2, ll_3, ll_4, ll_6, ll_16, ll_20, ll_40, ll_63, ll_800, ll_9999, jm_same, jm_ob, jm_ok, jm_il, jm_li, jm_lsame, jm_lob, jm_lok, Nat.reduceAdd, Nat.reduceMul, Nat.zero_add, Nat.add_zero, Nat.mul_zero, Nat.zero_mul, e_mw_isSmall, e_mw_isDigit, e_mw_isDigit0, e_mw_isGreat, e_xs_isSmall, e_xs_isFigure, e_xs_isGreat, e_mw_isLetter, e_xs_isLetter, e_isBlank, e_xs_isBlank, e_isFrom, e_isIn]
        exact ⟨fun _ => hP2, fun z => absurd (Int32.le_refl _) z⟩
      | succ d ih =>
        intro r K' ow' u' c s hr hX hI2 hc2
        obtain ⟨tb, ptb, ⟨ra, ktb, _, _, _, _, f1, _⟩⟩ := hI2.1.2.2.2.1.2.2.2.1
        have p10 := hI2.1.1.2.2.1.2.2.2.2.1
        have k2 := hI2.1.1.1.2.2.1
        have k0 := hI2.1.1.1.1
        have k16 : K' (a 16) = (2, 21) := hI2.1.1.1.2.2.2.2.2.2.2.2.2.2.2.2.2.2.2.2.1
        have k17 : K' (a 17) = (3, 120) := hI2.1.1.1.2.2.2.2.2.2.2.2.2.2.2.2.2.2.2.2.2.1
        have p17 : xr u' (a 0) 17 = some (a 16) := hI2.1.1.2.2.1.2.2.2.2.2.2.2.2.2.1
        have p21 : xr u' (a 0) 21 = some (a 17) := hI2.1.1.2.2.1.2.2.2.2.2.2.2.2.2.2.2.1
        have o0 : ow' (a 0) = 0 := hI2.1.1.2.1 0 (by omega)
        have o17 : ow' (a 17) = 17 := hI2.1.1.2.1 17 (by omega)
        have g0 := hT.1.1
        have g0l := hT.1.2
        obtain ⟨⟨l0, l0a, l0b⟩, _, ⟨c0, c0a, c0b⟩, _⟩ := hT.2.2.2.2.2.2 r (by omega)
        have ih2 := fun K' ow' u' c s => ih (r + 1) K' ow' u' c s (by omega)
        rw [it_s] at ih2
        generalize it (tcI (sl m 0) A F W many f p e b) 0 r = x at ih2 ⊢
        unfold xw0_truthsFrom_L26 xw0_truthsFrom_L26_S
        simp (disch := omega) only [xw0_table, k0, p10, k2, ptb, ktb, f1, g0, forall_eq, forall_eq', exists_eq_left, exists_eq_left', true_and, and_true, true_implies, false_implies, not_true_eq_false, not_false_eq_true, Prod.mk.injEq, Option.some.injEq, reduceCtorEq, and_self, implies_true, eq_self, Classical.not_not, and_false, false_and, ite_true, ite_false, reduceIte, bI_0, or_false, false_or, or_true, true_or, or_self, if_true, if_false, n_le_t, n_le_f, n_lt_t, n_lt_f, n_eq_t, n_eq_f, n_toInt, n_cl, n_vp, n_eqM, M_eqn, n_leM, n_ltM, M_len, M_ltn, M_add, n_sub, iM_toInt, x_lt_t, x_lt_f, x_le_t, x_le_f, lt_x_t, lt_x_f, le_x_t, le_x_f, x_eq_f, nI_add, pk_mul, bI_t, bI_f, Int32.toInt_toInt64, n_subI, x_add0, i_le_t, i_le_f, i_lt_t, i_lt_f, k_le_t, k_le_f, k_lt_t, k_lt_f, li_0, li_1, li_2, li_3, li_4, li_5, li_6, li_7, li_8, li_9, li_10, li_11, li_12, li_16, li_20, li_24, li_25, li_26, li_30, li_31, li_32, li_40, li_48, li_49, li_57, li_59, li_60, li_63, li_64, li_65, li_90, li_96, li_97, li_106, li_122, li_255, li_300, li_600, li_800, li_900, li_1850, li_2000, li_2010, li_2040, li_2801, li_3300, li_4161, li_9999, li_10163, li_16500, li_16800, li_17100, li_18350, li_18510, li_18540, li_65536, li_100000, li_999999, li_1000000, li_2147483647, im_1, im_8, ll_0, ll_1, ll_2, ll_3, ll_4, ll_6, ll_16, ll_20, ll_40, ll_63, ll_800, ll_9999, jm_same, jm_ob, jm_ok, jm_il, jm_li, jm_lsame, jm_lob, jm_lok, Nat.reduceAdd, Nat.reduceMul, Nat.zero_add, Nat.add_zero, Nat.mul_zero, Nat.zero_mul, e_mw_isSmall, e_mw_isDigit, e_mw_isDigit0, e_mw_isGreat, e_xs_isSmall, e_xs_isFigure, e_xs_isGreat, e_mw_isLetter, e_xs_isLetter, e_isBlank, e_xs_isBlank, e_isFrom, e_isIn]
        refine x_stands0 (A := A) (F := F) hI2.1 (by omega) h2 hm hI2.2.1 hI2.2.2.1 ?_
        have skip : ¬ nxR (sl m 0) A F W many p r → xw0_truthsFrom_L26 (xw0_truthsFrom (f + 1)) P mc ms (a 0) (nI p) (nI e) (nI many) (d + 1) (nI x) (nI (r + 1)) K' u' c s := fun hn => by
          rw [tcI_f hn] at ih2
          refine ih2 K' ow' u' c s hX hI2 ?_
          rcases hc2 with hc2 | ⟨q1, q2, q3, q4⟩
          · exact Or.inl hc2
          · refine Or.inr ⟨q1, q2, q3, fun r2 hr2 => ?_⟩
            by_cases z : r2 = r
            · subst z; exact fun y => hn y.1
            · exact q4 r2 (by omega)
        by_cases hrd : rdP (sl m 0) A F r p many
        · rw [cI_t hrd]
          have hle := hrd.2.1
          refine ⟨fun z => absurd z (by decide), fun _ => x_at hI2.1 (by omega) (fun o ho => ?_)⟩
          obtain ⟨la, ca, pla, kla, pca, kca⟩ := ho.cl
          have e16 := hI2.2.2.2.1 (p + hN (sl m 0) (12 + 12 * r + 7)) hle
          have hWl := hW (p + hN (sl m 0) (12 + 12 * r + 7))
          have xo := ho.x hT (show r < hN (sl m 0) 0 by omega)
          refine ⟨xo, ca, pca, _, kca, a 16, p17, 21, k16, ?_⟩
          simp (disch := omega) only [e16, forall_eq, forall_eq', exists_eq_left, exists_eq_left', true_and, and_true, true_implies, false_implies, not_true_eq_false, not_false_eq_true, Prod.mk.injEq, Option.some.injEq, reduceCtorEq, and_self, implies_true, eq_self, Classical.not_not, and_false, false_and, ite_true, ite_false, reduceIte, bI_0, or_false, false_or, or_true, true_or, or_self, if_true, if_false, n_le_t, n_le_f, n_lt_t, n_lt_f, n_eq_t, n_eq_f, n_toInt, n_cl, n_vp, n_eqM, M_eqn, n_leM, n_ltM, M_len, M_ltn, M_add, n_sub, iM_toInt, x_lt_t, x_lt_f, x_le_t, x_le_f, lt_x_t, lt_x_f, le_x_t, le_x_f, x_eq_f, nI_add, pk_mul, bI_t, bI_f, Int32.toInt_toInt64, n_subI, x_add0, i_le_t, i_le_f, i_lt_t, i_lt_f, k_le_t, k_le_f, k_lt_t, k_lt_f, li_0, li_1, li_2, li_3, li_4, li_5, li_6, li_7, li_8, li_9, li_10, li_11, li_12, li_16, li_20, li_24, li_25, li_26, li_30, li_31, li_32, li_40, li_48, li_49, li_57, li_59, li_60, li_63, li_64, li_65, li_90, li_96, li_97, li_106, li_122, li_255, li_300, li_600, li_800, li_900, li_1850, li_2000, li_2010, li_2040, li_2801, li_3300, li_4161, li_9999, li_10163, li_16500, li_16800, li_17100, li_18350, li_18510, li_18540, li_65536, li_100000, li_999999, li_1000000, li_2147483647, im_1, im_8, ll_0, ll_1, ll_2, ll_3, ll_4, ll_6, ll_16, ll_20, ll_40, ll_63, ll_800, ll_9999, jm_same, jm_ob, jm_ok, jm_il, jm_li, jm_lsame, jm_lob, jm_lok, Nat.reduceAdd, Nat.reduceMul, Nat.zero_add, Nat.add_zero, Nat.mul_zero, Nat.zero_mul, e_mw_isSmall, e_mw_isDigit, e_mw_isDigit0, e_mw_isGreat, e_xs_isSmall, e_xs_isFigure, e_xs_isGreat, e_mw_isLetter, e_xs_isLetter, e_isBlank, e_xs_isBlank, e_isFrom, e_isIn]
          by_cases hw : W (p + hN (sl m 0) (12 + 12 * r + 7)) = 0
          · refine ⟨fun z => absurd (by rw [hw]) z, fun _ => skip (fun z => z.2 hw)⟩
          · refine ⟨fun _ => x_at hI2.1 (by omega) (fun o1 ho1 => ?_), fun z => absurd z (by rw [n_eq_f hw (by omega) (by omega)]; exact id)⟩
            obtain ⟨la1, ca1, pla1, kla1, pca1, kca1⟩ := ho1.cl
            refine ⟨ho1.x hT (by omega), x_at hI2.1 (by omega) (fun o2 ho2 => ?_)⟩
            obtain ⟨la2, ca2, pla2, kla2, pca2, kca2⟩ := ho2.cl
            refine ⟨ho2.x hT (by omega), la2, pla2, _, kla2, a 17, p21, la1, pla1, _, kla1, 120, k17, ?_⟩
            simp (disch := omega) only [forall_eq, forall_eq', exists_eq_left, exists_eq_left', true_and, and_true, true_implies, false_implies, not_true_eq_false, not_false_eq_true, Prod.mk.injEq, Option.some.injEq, reduceCtorEq, and_self, implies_true, eq_self, Classical.not_not, and_false, false_and, ite_true, ite_false, reduceIte, bI_0, or_false, false_or, or_true, true_or, or_self, if_true, if_false, n_le_t, n_le_f, n_lt_t, n_lt_f, n_eq_t, n_eq_f, n_toInt, n_cl, n_vp, n_eqM, M_eqn, n_leM, n_ltM, M_len, M_ltn, M_add, n_sub, iM_toInt, x_lt_t, x_lt_f, x_le_t, x_le_f, lt_x_t, lt_x_f, le_x_t, le_x_f, x_eq_f, nI_add, pk_mul, bI_t, bI_f, Int32.toInt_toInt64, n_subI, x_add0, i_le_t, i_le_f, i_lt_t, i_lt_f, k_le_t, k_le_f, k_lt_t, k_lt_f, li_0, li_1, li_2, li_3, li_4, li_5, li_6, li_7, li_8, li_9, li_10, li_11, li_12, li_16, li_20, li_24, li_25, li_26, li_30, li_31, li_32, li_40, li_48, li_49, li_57, li_59, li_60, li_63, li_64, li_65, li_90, li_96, li_97, li_106, li_122, li_255, li_300, li_600, li_800, li_900, li_1850, li_2000, li_2010, li_2040, li_2801, li_3300, li_4161, li_9999, li_10163, li_16500, li_16800, li_17100, li_18350, li_18510, li_18540, li_65536, li_100000, li_999999, li_1000000, li_2147483647, im_1, im_8, ll_0, ll_1, ll_2, ll_3, ll_4, ll_6, ll_16, ll_20, ll_40, ll_63, ll_800, ll_9999, jm_same, jm_ob, jm_ok, jm_il, jm_li, jm_lsame, jm_lob, jm_lok, Nat.reduceAdd, Nat.reduceMul, Nat.zero_add, Nat.add_zero, Nat.mul_zero, Nat.zero_mul, e_mw_isSmall, e_mw_isDigit, e_mw_isDigit0, e_mw_isGreat, e_xs_isSmall, e_xs_isFigure, e_xs_isGreat, e_mw_isLetter, e_xs_isLetter, e_isBlank, e_xs_isBlank, e_isFrom, e_isIn]
            have hnx : nxR (sl m 0) A F W many p r := ⟨hrd, hw⟩
            rw [tcI_t hnx] at ih2
            have hq : QX ow' (a 0) u' (xcp u' la1 0 (a 17) e (hN (sl m 0) (12 + 12 * r))) := ⟨fun b k hb _ => (xcp_ne (fun z => hb (by rw [z, o17]; unfold xsc; omega)) k).1, fun b k _ => rfl, fun b k _ => rfl⟩
            have hR3 : Rep a K' ow' (xcp u' la1 0 (a 17) e (hN (sl m 0) (12 + 12 * r))) m := hI2.1.q QM.refl hq (by rw [(xcp_ne (fun z => by rw [z] at o0; omega) 7).1]; exact hI2.1.2.1.2.2.2.1)
            have hX3 : XZ (a 0) e K' ow' u' K' ow' (xcp u' la1 0 (a 17) e (hN (sl m 0) (12 + 12 * r))) := ⟨fun _ _ => ⟨rfl, rfl⟩, fun b k hb _ _ h4 => by
              show (if b = a 17 ∧ e ≤ k ∧ k < e + hN (sl m 0) (12 + 12 * r) then _ else _) = _
              rw [if_neg (fun z => h4 ⟨by rw [z.1, o17], z.2.1⟩)]
              rfl, fun _ _ _ _ => rfl, fun _ _ _ _ _ => rfl⟩
            have hI3 := hI2.z hX3 hR3
            have hI4 : TRI a m A F W many (e + hN (sl m 0) (12 + 12 * r)) (apB (sl m 0) b e r) K' ow' (xcp u' la1 0 (a 17) e (hN (sl m 0) (12 + 12 * r))) := by
              refine ⟨hI3.1, hI3.2.1, hI3.2.2.1, hI3.2.2.2.1, fun k hk => ?_⟩
              show (if a 17 = a 17 ∧ e ≤ k ∧ k < e + hN (sl m 0) (12 + 12 * r) then _ else _) = _
              unfold apB
              by_cases ck : e ≤ k ∧ k < e + hN (sl m 0) (12 + 12 * r)
              · rw [if_pos ⟨rfl, ck⟩, if_pos ck]
                obtain ⟨la3, ca3, _, _, y1, _, _, _, _, _, y2, _⟩ := ho1
                have e3 : la1 = la3 := by rw [pla1] at y1; injection y1
                subst e3
                rw [Nat.zero_add]
                exact y2 (k - e) (by omega)
              · rw [if_neg (fun z => ck z.2), if_neg ck]
                exact hI2.2.2.2.2 k (by omega)
            refine x_at (r := r) hR3 (by omega) (fun o4 ho4 => ?_)
            obtain ⟨la4, ca4, pla4, kla4, pca4, kca4⟩ := ho4.cl
            refine ⟨ho4.x hT (by omega), ca4, pca4, _, kca4, x_at (r := r) hR3 (by omega) (fun o5 ho5 => ?_)⟩
            obtain ⟨la5, ca5, pla5, kla5, pca5, kca5⟩ := ho5.cl
            refine ⟨ho5.x hT (by omega), la5, pla5, _, kla5, ?_⟩
            by_cases hcu : XCu a u'
            · have hcm : c ≤ mc ∧ s ≤ ms := by
                rcases hc2 with hc2 | ⟨q1, q2, _⟩
                · exact hc2.2
                · omega
              refine ⟨0, 0, hcm.1, hcm.2, IH _ _ _ 0 0 K' ow' _ _ (by omega) hle (by omega) hI4 (Or.inl (xcp_cu hcu)) (fun K3 ow3 v3 hX5 hR5 hC5 => ?_)⟩
              have hX6 := hX3.trans hX5 (by omega)
              simp (disch := omega) only [forall_eq, forall_eq', exists_eq_left, exists_eq_left', true_and, and_true, true_implies, false_implies, not_true_eq_false, not_false_eq_true, Prod.mk.injEq, Option.some.injEq, reduceCtorEq, and_self, implies_true, eq_self, Classical.not_not, and_false, false_and, ite_true, ite_false, reduceIte, bI_0, or_false, false_or, or_true, true_or, or_self, if_true, if_false, n_le_t, n_le_f, n_lt_t, n_lt_f, n_eq_t, n_eq_f, n_toInt, n_cl, n_vp, n_eqM, M_eqn, n_leM, n_ltM, M_len, M_ltn, M_add, n_sub, iM_toInt, x_lt_t, x_lt_f, x_le_t, x_le_f, lt_x_t, lt_x_f, le_x_t, le_x_f, x_eq_f, nI_add, pk_mul, bI_t, bI_f, Int32.toInt_toInt64, n_subI, x_add0, i_le_t, i_le_f, i_lt_t, i_lt_f, k_le_t, k_le_f, k_lt_t, k_lt_f, li_0, li_1, li_2, li_3, li_4, li_5, li_6, li_7, li_8, li_9, li_10, li_11, li_12, li_16, li_20, li_24, li_25, li_26, li_30, li_31, li_32, li_40, li_48, li_49, li_57, li_59, li_60, li_63, li_64, li_65, li_90, li_96, li_97, li_106, li_122, li_255, li_300, li_600, li_800, li_900, li_1850, li_2000, li_2010, li_2040, li_2801, li_3300, li_4161, li_9999, li_10163, li_16500, li_16800, li_17100, li_18350, li_18510, li_18540, li_65536, li_100000, li_999999, li_1000000, li_2147483647, im_1, im_8, ll_0, ll_1, ll_2, ll_3, ll_4, ll_6, ll_16, ll_20, ll_40, ll_63, ll_800, ll_9999, jm_same, jm_ob, jm_ok, jm_il, jm_li, jm_lsame, jm_lob, jm_lok, Nat.reduceAdd, Nat.reduceMul, Nat.zero_add, Nat.add_zero, Nat.mul_zero, Nat.zero_mul, e_mw_isSmall, e_mw_isDigit, e_mw_isDigit0, e_mw_isGreat, e_xs_isSmall, e_xs_isFigure, e_xs_isGreat, e_mw_isLetter, e_xs_isLetter, e_isBlank, e_xs_isBlank, e_isFrom, e_isIn]
              exact ih2 K3 ow3 v3 c s (hX.trans hX6 (Nat.le_refl _)) (hI2.z hX6 hR5) (Or.inl ⟨hC5 (Or.inl (xcp_cu hcu)), hcm⟩)
            · obtain ⟨q1, q2, q3, q4⟩ : c = 0 ∧ s = 0 ∧ ¬ XCu a u ∧ ∀ r2, r2 < r → ¬ (nxR (sl m 0) A F W many p r2 ∧ lfD (sl m 0) A F W many f (p + hN (sl m 0) (12 + 12 * r2 + 7))) := by
                rcases hc2 with hc2 | hc2
                · exact absurd hc2.1 hcu
                · exact hc2
              by_cases hlf : lfD (sl m 0) A F W many f (p + hN (sl m 0) (12 + 12 * r + 7))
              · have hmm : 11 ≤ mc ∧ 7200 ≤ ms := by
                  rcases hc with hc | hc | hc
                  · exact absurd hc q3
                  · exact absurd (Or.inr ⟨r, by omega, hnx, hlf⟩) hc
                  · exact hc
                refine ⟨11, 7200, by omega, by omega, IH _ _ _ 11 7200 K' ow' _ _ (by omega) hle (by omega) hI4 (Or.inr (Or.inr ⟨Nat.le_refl _, Nat.le_refl _⟩)) (fun K3 ow3 v3 hX5 hR5 hC5 => ?_)⟩
                have hX6 := hX3.trans hX5 (by omega)
                simp (disch := omega) only [forall_eq, forall_eq', exists_eq_left, exists_eq_left', true_and, and_true, true_implies, false_implies, not_true_eq_false, not_false_eq_true, Prod.mk.injEq, Option.some.injEq, reduceCtorEq, and_self, implies_true, eq_self, Classical.not_not, and_false, false_and, ite_true, ite_false, reduceIte, bI_0, or_false, false_or, or_true, true_or, or_self, if_true, if_false, n_le_t, n_le_f, n_lt_t, n_lt_f, n_eq_t, n_eq_f, n_toInt, n_cl, n_vp, n_eqM, M_eqn, n_leM, n_ltM, M_len, M_ltn, M_add, n_sub, iM_toInt, x_lt_t, x_lt_f, x_le_t, x_le_f, lt_x_t, lt_x_f, le_x_t, le_x_f, x_eq_f, nI_add, pk_mul, bI_t, bI_f, Int32.toInt_toInt64, n_subI, x_add0, i_le_t, i_le_f, i_lt_t, i_lt_f, k_le_t, k_le_f, k_lt_t, k_lt_f, li_0, li_1, li_2, li_3, li_4, li_5, li_6, li_7, li_8, li_9, li_10, li_11, li_12, li_16, li_20, li_24, li_25, li_26, li_30, li_31, li_32, li_40, li_48, li_49, li_57, li_59, li_60, li_63, li_64, li_65, li_90, li_96, li_97, li_106, li_122, li_255, li_300, li_600, li_800, li_900, li_1850, li_2000, li_2010, li_2040, li_2801, li_3300, li_4161, li_9999, li_10163, li_16500, li_16800, li_17100, li_18350, li_18510, li_18540, li_65536, li_100000, li_999999, li_1000000, li_2147483647, im_1, im_8, ll_0, ll_1, ll_2, ll_3, ll_4, ll_6, ll_16, ll_20, ll_40, ll_63, ll_800, ll_9999, jm_same, jm_ob, jm_ok, jm_il, jm_li, jm_lsame, jm_lob, jm_lok, Nat.reduceAdd, Nat.reduceMul, Nat.zero_add, Nat.add_zero, Nat.mul_zero, Nat.zero_mul, e_mw_isSmall, e_mw_isDigit, e_mw_isDigit0, e_mw_isGreat, e_xs_isSmall, e_xs_isFigure, e_xs_isGreat, e_mw_isLetter, e_xs_isLetter, e_isBlank, e_xs_isBlank, e_isFrom, e_isIn]
                exact ih2 K3 ow3 v3 _ _ (hX.trans hX6 (Nat.le_refl _)) (hI2.z hX6 hR5) (Or.inl ⟨hC5 (Or.inr hlf), by omega, by omega⟩)
              · refine ⟨0, 0, by omega, by omega, IH _ _ _ 0 0 K' ow' _ _ (by omega) hle (by omega) hI4 (Or.inr (Or.inl hlf)) (fun K3 ow3 v3 hX5 hR5 hC5 => ?_)⟩
                have hX6 := hX3.trans hX5 (by omega)
                simp (disch := omega) only [forall_eq, forall_eq', exists_eq_left, exists_eq_left', true_and, and_true, true_implies, false_implies, not_true_eq_false, not_false_eq_true, Prod.mk.injEq, Option.some.injEq, reduceCtorEq, and_self, implies_true, eq_self, Classical.not_not, and_false, false_and, ite_true, ite_false, reduceIte, bI_0, or_false, false_or, or_true, true_or, or_self, if_true, if_false, n_le_t, n_le_f, n_lt_t, n_lt_f, n_eq_t, n_eq_f, n_toInt, n_cl, n_vp, n_eqM, M_eqn, n_leM, n_ltM, M_len, M_ltn, M_add, n_sub, iM_toInt, x_lt_t, x_lt_f, x_le_t, x_le_f, lt_x_t, lt_x_f, le_x_t, le_x_f, x_eq_f, nI_add, pk_mul, bI_t, bI_f, Int32.toInt_toInt64, n_subI, x_add0, i_le_t, i_le_f, i_lt_t, i_lt_f, k_le_t, k_le_f, k_lt_t, k_lt_f, li_0, li_1, li_2, li_3, li_4, li_5, li_6, li_7, li_8, li_9, li_10, li_11, li_12, li_16, li_20, li_24, li_25, li_26, li_30, li_31, li_32, li_40, li_48, li_49, li_57, li_59, li_60, li_63, li_64, li_65, li_90, li_96, li_97, li_106, li_122, li_255, li_300, li_600, li_800, li_900, li_1850, li_2000, li_2010, li_2040, li_2801, li_3300, li_4161, li_9999, li_10163, li_16500, li_16800, li_17100, li_18350, li_18510, li_18540, li_65536, li_100000, li_999999, li_1000000, li_2147483647, im_1, im_8, ll_0, ll_1, ll_2, ll_3, ll_4, ll_6, ll_16, ll_20, ll_40, ll_63, ll_800, ll_9999, jm_same, jm_ob, jm_ok, jm_il, jm_li, jm_lsame, jm_lob, jm_lok, Nat.reduceAdd, Nat.reduceMul, Nat.zero_add, Nat.add_zero, Nat.mul_zero, Nat.zero_mul, e_mw_isSmall, e_mw_isDigit, e_mw_isDigit0, e_mw_isGreat, e_xs_isSmall, e_xs_isFigure, e_xs_isGreat, e_mw_isLetter, e_xs_isLetter, e_isBlank, e_xs_isBlank, e_isFrom, e_isIn]
                refine ih2 K3 ow3 v3 _ _ (hX.trans hX6 (Nat.le_refl _)) (hI2.z hX6 hR5) ?_
                by_cases hcv : XCu a v3
                · exact Or.inl ⟨hcv, by omega, by omega⟩
                · refine Or.inr ⟨by omega, by omega, q3, fun r2 hr2 => ?_⟩
                  by_cases z : r2 = r
                  · subst z; exact fun y => hlf y.2
                  · exact q4 r2 (by omega)
        · rw [cI_f hrd]
          simp (disch := omega) only [forall_eq, forall_eq', exists_eq_left, exists_eq_left', true_and, and_true, true_implies, false_implies, not_true_eq_false, not_false_eq_true, Prod.mk.injEq, Option.some.injEq, reduceCtorEq, and_self, implies_true, eq_self, Classical.not_not, and_false, false_and, ite_true, ite_false, reduceIte, bI_0, or_false, false_or, or_true, true_or, or_self, if_true, if_false, n_le_t, n_le_f, n_lt_t, n_lt_f, n_eq_t, n_eq_f, n_toInt, n_cl, n_vp, n_eqM, M_eqn, n_leM, n_ltM, M_len, M_ltn, M_add, n_sub, iM_toInt, x_lt_t, x_lt_f, x_le_t, x_le_f, lt_x_t, lt_x_f, le_x_t, le_x_f, x_eq_f, nI_add, pk_mul, bI_t, bI_f, Int32.toInt_toInt64, n_subI, x_add0, i_le_t, i_le_f, i_lt_t, i_lt_f, k_le_t, k_le_f, k_lt_t, k_lt_f, li_0, li_1, li_2, li_3, li_4, li_5, li_6, li_7, li_8, li_9, li_10, li_11, li_12, li_16, li_20, li_24, li_25, li_26, li_30, li_31, li_32, li_40, li_48, li_49, li_57, li_59, li_60, li_63, li_64, li_65, li_90, li_96, li_97, li_106, li_122, li_255, li_300, li_600, li_800, li_900, li_1850, li_2000, li_2010, li_2040, li_2801, li_3300, li_4161, li_9999, li_10163, li_16500, li_16800, li_17100, li_18350, li_18510, li_18540, li_65536, li_100000, li_999999, li_1000000, li_2147483647, im_1, im_8, ll_0, ll_1, ll_2, ll_3, ll_4, ll_6, ll_16, ll_20, ll_40, ll_63, ll_800, ll_9999, jm_same, jm_ob, jm_ok, jm_il, jm_li, jm_lsame, jm_lob, jm_lok, Nat.reduceAdd, Nat.reduceMul, Nat.zero_add, Nat.add_zero, Nat.mul_zero, Nat.zero_mul, e_mw_isSmall, e_mw_isDigit, e_mw_isDigit0, e_mw_isGreat, e_xs_isSmall, e_xs_isFigure, e_xs_isGreat, e_mw_isLetter, e_xs_isLetter, e_isBlank, e_xs_isBlank, e_isFrom, e_isIn]
          exact skip (fun z => hrd z.1)
    refine ⟨_, key (hN (sl m 0) 0) 0 K ow u 0 0 (by omega) XZ.refl hI ?_⟩
    by_cases hcu : XCu a u
    · exact Or.inl ⟨hcu, Nat.zero_le _, Nat.zero_le _⟩
    · exact Or.inr ⟨rfl, rfl, hcu, fun r2 hr2 => by omega⟩
end TRB
