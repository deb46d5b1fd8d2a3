/-! PLAIN LAW: truths: a reading's text set again, the component -/
set_option linter.unusedVariables false
/-- the row, the text and the rest of what truths needs stay -/
def zoO (ow : Nat → Nat) : Nat → Nat := fun b => if 12 ≤ ow b ∧ ow b ≤ 20 then 50 else ow b
theorem zoO_k {ow : Nat → Nat} {b : Nat} (h : ¬ (12 ≤ ow b ∧ ow b ≤ 20)) : zoO ow b = ow b := if_neg h
theorem zoO_i {ow : Nat → Nat} {b : Nat} (h : 12 ≤ ow b ∧ ow b ≤ 20) : zoO ow b = 50 := if_pos h
theorem rRule.zo {K : XK} {ow : Nat → Nat} {u : XS} {o r : Nat} {g : Nat → Int32} (h : rRule K ow u o g r) : rRule K (zoO ow) u o g r := by
  obtain ⟨la, ca, h1, h2, h3, h4, h5, h6, h7, h8, h9, h10⟩ := h
  exact ⟨la, ca, h1, by rw [zoO_k (by omega), h2], h3, h4, by rw [zoO_k (by omega), h5], h6, h7, by rw [zoO_k (by omega), h8], h9, h10⟩
theorem rTab.zo {K : XK} {ow : Nat → Nat} {u : XS} {t : Nat} {g : Nat → Int32} (h : rTab K ow u t g) : rTab K (zoO ow) u t g := by
  obtain ⟨ra, h1, h2, h3, h4, h5, h6, h7, h8, h9, h10, h11, h12⟩ := h
  refine ⟨ra, h1, by rw [zoO_k (by omega), h2], h3, h4, by rw [zoO_k (by omega), h5], h6, h7, h8, h9, h10, h11, fun r hr => ?_⟩
  obtain ⟨o, h13, h14⟩ := h12 r hr
  exact ⟨o, h13, h14.zo⟩
section TRA
variable {a : Nat → Nat} {K K2 K3 : XK} {ow ow2 ow3 : Nat → Nat} {u v w : XS} {m : MS} {s t : Nat} {as : Nat → Nat} {h : Nat → Int32}
theorem xS0.zo (hS : xS0 a K ow u s t as h) : xS0 a K (zoO ow) u s t as h := by
  obtain ⟨⟨ks, os, h3, h4, ⟨p8, k8, o8⟩, ⟨p9, k9, o9⟩, ⟨p10, k10, o10⟩, ⟨p11, k11, o11⟩, ⟨p12, k12, o12⟩, ⟨p13, k13, o13⟩, ⟨p14, k14, o14⟩, ⟨p15, k15, o15⟩, ⟨p16, k16, o16⟩, ⟨p20, k20, o20⟩⟩, e0, hTb, hT, h5, h6, h7, h8⟩ := hS
  have z : ∀ {b r : Nat}, ow b = r → (300 ≤ r ∨ r = 11) → zoO ow b = r := fun {b r} e hr => by rw [zoO_k (by omega), e]
  exact ⟨⟨ks, z os (by omega), h3, h4, ⟨p8, k8, z o8 (by omega)⟩, ⟨p9, k9, z o9 (by omega)⟩, ⟨p10, k10, z o10 (by omega)⟩, ⟨p11, k11, z o11 (by omega)⟩, ⟨p12, k12, z o12 (by omega)⟩, ⟨p13, k13, z o13 (by omega)⟩, ⟨p14, k14, z o14 (by omega)⟩, ⟨p15, k15, z o15 (by omega)⟩, ⟨p16, k16, z o16 (by omega)⟩, ⟨p20, k20, z o20 (by omega)⟩⟩, e0, hTb.zo, hT, h5, h6, h7, z h8 (by omega)⟩
theorem QZ.zo (hq : QZ (zoO ow) u v) : QZ ow u v := by
  have hz : ∀ b, ¬ xsc (ow b) → ¬ xsc (zoO ow b) := fun b hb => by rw [zoO_k (by unfold xsc at hb; omega)]; exact hb
  refine ⟨fun b k hb => hq.1 b k (hz b hb), fun b k hb => hq.2.1 b k (hz b hb), fun b k hb => hq.2.2 b k (fun z => hb ⟨?_, z.2⟩)⟩
  by_cases c : 12 ≤ ow b ∧ ow b ≤ 20
  · rw [zoO_i c] at z; omega
  · rw [zoO_k c] at z; exact z.1
/-- what setting a reading's text changes, the text from e on with it -/
def XZ (a0 e : Nat) (K : XK) (ow : Nat → Nat) (u : XS) (K2 : XK) (ow2 : Nat → Nat) (v : XS) : Prop :=
  (∀ b, (K b).1 ≠ 0 → K2 b = K b ∧ ow2 b = ow b) ∧ (∀ b k, (K b).1 ≠ 0 → ow b ≠ 11 → ow b < 300 → ¬ (ow b = 17 ∧ e ≤ k) → xi v b k = xi u b k) ∧
  (∀ b k, (K b).1 ≠ 0 → ¬ xsc (ow b) → xl v b k = xl u b k) ∧ ∀ b k, (K b).1 ≠ 0 → ¬ (ow b = 300 ∧ k = 2) → ¬ (b = a0 ∧ k = 13) → xr v b k = xr u b k
variable {a0 e e2 : Nat}
theorem XZ.refl : XZ a0 e K ow u K ow u := ⟨fun _ _ => ⟨rfl, rfl⟩, fun _ _ _ _ _ _ => rfl, fun _ _ _ _ => rfl, fun _ _ _ _ _ => rfl⟩
theorem XZ.trans (h1 : XZ a0 e K ow u K2 ow2 v) (h2 : XZ a0 e2 K2 ow2 v K3 ow3 w) (he : e ≤ e2) : XZ a0 e K ow u K3 ow3 w := by
  have hk : ∀ b, (K b).1 ≠ 0 → (K2 b).1 ≠ 0 := fun b hb => by rw [(h1.1 b hb).1]; exact hb
  refine ⟨fun b hb => ⟨(h2.1 b (hk b hb)).1.trans (h1.1 b hb).1, (h2.1 b (hk b hb)).2.trans (h1.1 b hb).2⟩, fun b k hb q1 q2 q3 => ?_, fun b k hb q => ?_, fun b k hb q q2 => ?_⟩
  · have e := (h1.1 b hb).2
    exact (h2.2.1 b k (hk b hb) (by rw [e]; exact q1) (by rw [e]; exact q2) (by rw [e]; omega)).trans (h1.2.1 b k hb q1 q2 q3)
  · have e := (h1.1 b hb).2
    exact (h2.2.2.1 b k (hk b hb) (by rw [e]; exact q)).trans (h1.2.2.1 b k hb q)
  · have e := (h1.1 b hb).2
    exact (h2.2.2.2 b k (hk b hb) (by rw [e]; exact q) q2).trans (h1.2.2.2 b k hb q q2)
theorem XZ.xa (h1 : XZ a0 e K ow u K2 ow2 v) : XA a0 K ow u K2 ow2 v :=
  ⟨h1.1, fun b k hb q q2 => h1.2.1 b k hb (by unfold xsc at q; omega) (by unfold xsc at q; omega) (by unfold xsc at q; omega), h1.2.2.1, h1.2.2.2⟩
theorem XZ.qz (hq : QZ (zoO ow) u v) : XZ a0 e K ow u K ow v := by
  refine ⟨fun _ _ => ⟨rfl, rfl⟩, fun b k hb q1 q2 q3 => hq.1 b k ?_, fun b k hb q => hq.zo.2.1 b k q, fun b k hb q q2 => hq.zo.2.2 b k q⟩
  by_cases c : 12 ≤ ow b ∧ ow b ≤ 20
  · rw [zoO_i c]; unfold xsc; omega
  · rw [zoO_k c]; unfold xsc; omega
theorem XZ.rep (hX : XZ (a 0) e K ow u K2 ow2 v) (hR : Rep a K ow u m) (hT : XT a K2 ow2 v) : Rep a K2 ow2 v m := by
  have o0 : ow (a 0) = 0 := hR.1.2.1 0 (by omega)
  have k0 := hR.1.1.1
  refine Rep.of0 (Rep0.g hR.to0.1 QM.refl hX.xa ?_) hT
  rw [hX.2.1 (a 0) 7 (by rw [k0]; decide) (by omega) (by omega) (by omega)]
  exact hR.2.1.2.2.2.1
/-- the setter is the table's -/
def XCu (a : Nat → Nat) (u : XS) : Prop := ∃ s t, xr u (a 0) 13 = some s ∧ xr u (a 2) 0 = some t ∧ xr u s 0 = some t
theorem XS1.cu (hS : XS1 a K ow u s t as h) : XCu a u := ⟨s, t, hS.2.1, hS.2.2.2.2.1, hS.1.2.1⟩
theorem XS1.of (hR : Rep a K ow u m) (hc : XCu a u) : ∃ s t as, XS1 a K ow u s t as (sl m 0) := by
  obtain ⟨hSt, hSc, hTr, ⟨hT, hWW, k2, ⟨tb, ptb, hTb⟩, cdr, hwr⟩, hMar, s, as, ps, hSet⟩ := hR
  obtain ⟨s2, t2, c1, c2, c3⟩ := hc
  have e1 : s = s2 := by rw [ps] at c1; injection c1
  have e2 : tb = t2 := by rw [ptb] at c2; injection c2
  subst e1 e2
  exact ⟨s, tb, as, ⟨hSet, c3, hTb, hT, hSt.1.1, hSt.2.2.1.2.1, hSt.1.2.2.2.2.2.2.2.2.2.2.2.1, hSt.2.1 11 (by omega)⟩, ps, hSt.2.2.1.2.2.2.2.1, hSt.1.2.2.1, ptb, hSt.2.1 0 (by omega), hSt.2.1 2 (by omega)⟩
set_option maxHeartbeats 4000000 in
theorem x_isTrue {A b : Nat → Int32} {many mc ms : Nat} {P : Int32 → XK → XS → Prop} (hR : Rep a K ow u m) (hm : many ≤ 20) (he : e ≤ 120) (hA : ∀ k, k < many → xi u (a 14) k = A k) (hb : ∀ k, k < e → xi u (a 17) k = b k)
    (hc : XCu a u ∨ (11 ≤ mc ∧ 7200 ≤ ms)) (hP : ∀ K2 ow2 v, XZ (a 0) e K ow u K2 ow2 v → Rep a K2 ow2 v m → XCu a v → P (cI (isTr (sl m 0) A many b e) (nI 1) (nI 0)) K2 v) : xw0_isTrue (a 0) (nI e) (nI many) K u mc ms P := by
  obtain ⟨m1, w1, hm1, hw1, hs⟩ : ∃ m1 w1, m1 ≤ mc ∧ w1 ≤ ms ∧ ∀ Q : Nat → XK → XS → Prop, (∀ s t as K2 ow2 v, XZ (a 0) e K ow u K2 ow2 v → XS1 a K2 ow2 v s t as (sl m 0) → Q s K2 v) → xw0_setter (a 0) K u m1 w1 Q := by
    rcases hc with hc | ⟨h1, h2⟩
    · obtain ⟨s, t, as, hS⟩ := XS1.of hR hc
      exact ⟨0, 0, Nat.zero_le _, Nat.zero_le _, fun Q hQ => x_setter2 hS (hQ s t as K ow u XZ.refl hS)⟩
    · exact ⟨11, 7200, h1, h2, fun Q hQ => x_setterS hR (Nat.le_refl _) (Nat.le_refl _) (fun s t as K2 ow2 v hX hi hS => hQ s t as K2 ow2 v ⟨hX.1, fun b k hb _ _ _ => hi b k hb, hX.2.2.1, hX.2.2.2⟩ hS)⟩
  unfold xw0_isTrue
  refine ⟨hR.1.1.1, m1, w1, hm1, hw1, hs _ (fun s t as K2 ow2 v hX hS => ?_)⟩
  have hR2 := hX.rep hR ⟨s, as, hS.2.1, hS.1.1⟩
  have o14 : ow (a 14) = 14 := hR.1.2.1 14 (by omega)
  have o17 : ow (a 17) = 17 := hR.1.2.1 17 (by omega)
  have p17 : ow2 (a 17) = 17 := hR2.1.2.1 17 (by omega)
  have p14 : ow2 (a 14) = 14 := hR2.1.2.1 14 (by omega)
  have k14 : K (a 14) = (2, 20) := hR.1.1.2.2.2.2.2.2.2.2.2.2.2.2.2.2.1
  have k17 : K (a 17) = (3, 120) := hR.1.1.2.2.2.2.2.2.2.2.2.2.2.2.2.2.2.2.2.1
  have l14 : K2 (a 14) = (2, 20) := hR2.1.1.2.2.2.2.2.2.2.2.2.2.2.2.2.2.1
  have l17 : K2 (a 17) = (3, 120) := hR2.1.1.2.2.2.2.2.2.2.2.2.2.2.2.2.2.2.2.2.1
  have p10 : xr v (a 0) 10 = some (a 2) := hS.2.2.1
  have p15 : xr v (a 0) 15 = some (a 14) := hR2.1.2.2.1.2.2.2.2.2.2.2.1
  have p21 : xr v (a 0) 21 = some (a 17) := hR2.1.2.2.1.2.2.2.2.2.2.2.2.2.2.2.1
  have g6 : xi v (a 2) 1 = sl m 0 6 := hR2.2.2.2.1.2.2.2.2.1
  have hT : WT (sl m 0) := hR.2.2.2.1.1
  have hvb : ∀ k, k < e → xi v (a 17) k = ctB b e k := fun k hk => by rw [ctB_i hk, ← hb k hk]; exact hX.2.1 _ _ (by rw [k17]; decide) (by omega) (by omega) (by omega)
  have hvA : ∀ k, k < many → xi v (a 14) k = A k := fun k hk => by rw [← hA k hk]; exact hX.2.1 _ _ (by rw [k14]; decide) (by omega) (by omega) (by omega)
  refine ⟨a 2, p10, hS.2.2.2.1, a 17, p21, hS.1.1.1, 0, 0, by omega, by omega, ?_⟩
  rw [g6]
  have hxb : xBy K2 (zoO ow2) v (a 17) (ctB b e) e := ⟨⟨120, l17, by omega, by omega⟩, by rw [zoO_i (by omega)]; omega, by omega, hvb, fun p hp => ctB_e hp⟩
  refine x_allZ hS.1.zo hxb (wcB_WB (by omega)) (fun er hE u2 hq _ _ => ?_) (fun hN1 u2 hq hSt hTp => ?_)
  · have hX2 : XZ (a 0) e K ow u K2 ow2 u2 := hX.trans (XZ.qz hq) (Nat.le_refl _)
    have hS2 := hS.q hq.zo.x
    have := hP K2 ow2 u2 hX2 (hX2.rep hR ⟨s, as, hS2.2.1, hS2.1.1⟩) hS2.cu
    rw [cI_f (fun z => by rw [z.1] at hE; simp at hE)] at this
    exact this
  · have hX2 : XZ (a 0) e K ow u K2 ow2 u2 := hX.trans (XZ.qz hq) (Nat.le_refl _)
    have hS2 := hS.q hq.zo.x
    have hP2 := hP K2 ow2 u2 hX2 (hX2.rep hR ⟨s, as, hS2.2.1, hS2.1.1⟩) hS2.cu
    refine ⟨0, 0, by omega, by omega, x_setter2 hS2 ⟨hS2.1.1.1, fun c8 => ?_, fun c8 => ?_⟩⟩
    · have q15 : xr u2 (a 0) 15 = some (a 14) := by rw [hq.zo.2.2 _ _ (by rw [hS.2.2.2.2.2.1]; omega), p15]
      have h8 : xi u2 s 4 = (setS (sl m 0) (ctB b e) (sl m 0 6) e (wcB b e)).2 8 := hTp.1
      have e8 : (setS (sl m 0) (ctB b e) (sl m 0 6) e (wcB b e)).2 8 = nI many := h8.symm.trans c8
      have e8n : hN (setS (sl m 0) (ctB b e) (sl m 0 6) e (wcB b e)).2 8 = many := hN_of e8 (by omega)
      have hcl : ∀ k, k < many → xi u2 (as 8) k = (setS (sl m 0) (ctB b e) (sl m 0 6) e (wcB b e)).2 (600 + k) := fun k hk => (hTp.2.2.2.2.1 k (by rw [e8n]; exact hk)).1
      have hA2 : ∀ k, k < many → xi u2 (a 14) k = A k := fun k hk => by rw [hq.1 _ _ (by rw [zoO_i (by omega)]; unfold xsc; omega), hvA k hk]
      have p8 := hS2.1.1.2.2.2.2.1
      have key : ∀ d k c s', c ≤ mc → s' ≤ ms → k + d = many → (∀ j, j < k → (setS (sl m 0) (ctB b e) (sl m 0 6) e (wcB b e)).2 (600 + j) = A j) → xw0_isTrue_L40 P mc ms (a 0) (nI many) (d + 1) (nI k) K2 u2 c s' := by
        intro d
        induction d with
        | zero =>
          intro k c s' hc hs' hk hj
          have ek : k = many := by omega
          subst ek
          rw [cI_t ⟨hN1, e8, hj⟩] at hP2
          unfold xw0_isTrue_L40 xw0_isTrue_L40_S
          exact ⟨fun _ => hP2, fun z => absurd (Int32.le_refl _) z⟩
        | succ d ih =>
          intro k c s' hc hs' hk hj
          unfold xw0_isTrue_L40 xw0_isTrue_L40_S
          refine ⟨fun z => absurd z (by rw [n_le_f (by omega) (by omega)]; exact id), fun _ => ⟨hS2.1.2.2.2.2.1, 0, 0, by omega, by omega, x_setter2 hS2 ⟨hS2.1.1.1, as 8, p8.1, 1400, p8.2.1, vp_in_nI (by omega) (by omega), a 14, q15, 20, l14, vp_in_nI (by omega) (by omega), fun ceq v65 e65 => ?_, fun cne => ?_⟩⟩⟩
          · subst e65
            rw [n_cl (by omega), hcl k (by omega), hA2 k (by omega)] at ceq
            have := ih (k + 1) c s' hc hs' (by omega) (fun j hj2 => by
              by_cases z : j = k
              · subst z; exact ceq
              · exact hj j (by omega))
            simp (disch := omega) only [forall_eq, forall_eq', exists_eq_left, exists_eq_left', true_and, and_true, true_implies, false_implies, not_true_eq_false, not_false_eq_true, Prod.mk.injEq, Option.some.injEq, reduceCtorEq, and_self, implies_true, eq_self, Classical.not_not, and_false, false_and, ite_true, ite_false, reduceIte, bI_0, or_false, false_or, or_true, true_or, or_self, if_true, if_false, n_le_t, n_le_f, n_lt_t, n_lt_f, n_eq_t, n_eq_f, n_toInt, n_cl, n_vp, n_eqM, M_eqn, n_leM, n_ltM, M_len, M_ltn, M_add, n_sub, iM_toInt, x_lt_t, x_lt_f, x_le_t, x_le_f, lt_x_t, lt_x_f, le_x_t, le_x_f, x_eq_f, nI_add, pk_mul, bI_t, bI_f, Int32.toInt_toInt64, n_subI, x_add0, i_le_t, i_le_f, i_lt_t, i_lt_f, k_le_t, k_le_f, k_lt_t, k_lt_f, li_0, li_1, li_2, li_3, li_4, li_5, li_6, li_7, li_8, li_9, li_10, li_11, li_12, li_16, li_20, li_24, li_25, li_26, li_30, li_31, li_32, li_40, li_48, li_49, li_57, li_59, li_60, li_63, li_64, li_65, li_90, li_96, li_97, li_106, li_122, li_255, li_300, li_600, li_800, li_900, li_1850, li_2000, li_2010, li_2040, li_2801, li_3300, li_4161, li_9999, li_10163, li_16500, li_16800, li_17100, li_18350, li_18510, li_18540, li_65536, li_100000, li_999999, li_1000000, li_2147483647, im_1, im_8, ll_0, ll_1, ll_2, ll_3, ll_4, ll_6, ll_16, ll_20, ll_40, ll_63, ll_800, ll_9999, jm_same, jm_ob, jm_ok, jm_il, jm_li, jm_lsame, jm_lob, jm_lok, Nat.reduceAdd, Nat.reduceMul, Nat.zero_add, Nat.add_zero, Nat.mul_zero, Nat.zero_mul, e_mw_isSmall, e_mw_isDigit, e_mw_isDigit0, e_mw_isGreat, e_xs_isSmall, e_xs_isFigure, e_xs_isGreat, e_mw_isLetter, e_xs_isLetter, e_isBlank, e_xs_isBlank, e_isFrom, e_isIn]
            exact this
          · rw [n_cl (by omega), hcl k (by omega), hA2 k (by omega)] at cne
            rw [cI_f (fun z => cne (z.2.2 k (by omega)))] at hP2
            exact hP2
      exact ⟨_, key many 0 _ _ (by omega) (by omega) (by omega) (fun j hj => by omega)⟩
    · rw [cI_f (fun z => c8 (hTp.1.trans z.2.1))] at hP2
      exact hP2
end TRA
