/-! PLAIN LAW: marks -/
set_option linter.unusedVariables false
section XBS
variable {a : Nat → Nat} {K K2 : XK} {ow ow2 : Nat → Nat} {u v : XS} {s t : Nat} {as : Nat → Nat} {h : Nat → Int32} {m n : MS}
theorem Rep.ae (hR : Rep a K ow u m) (hAE : AE K u K2 v) (ho : ∀ b, (K b).1 ≠ 0 → ow2 b = ow b) : Rep a K2 ow2 v m := by
  have q0 : ow (a 0) = 0 := hR.1.2.1 0 (by omega)
  have z0 := hR.1.nz (i := 0) (by omega)
  have hX : XA (a 0) K ow u K2 ow2 v := XA.ae hAE ho
  obtain ⟨s, as, ps, hs⟩ := hR.2.2.2.2.2
  exact Rep.of0 (Rep0.g hR.to0.1 QM.refl hX (by rw [((hAE (a 0) z0).2 7).1]; exact hR.2.1.2.2.2.1)) ⟨s, as, by rw [((hAE (a 0) z0).2 13).2.2]; exact ps, XA.set q0 hX hs⟩
theorem AE.wr {o k : Nat} {x : Option Nat} (h : AE K u K2 v) (ho : (K o).1 = 0) : AE K u K2 (xsr v o k x) := fun b hb => by
  have hne : b ≠ o := fun z => by rw [z] at hb; exact hb ho
  refine ⟨(h b hb).1, fun q => ⟨((h b hb).2 q).1, ((h b hb).2 q).2.1, ?_⟩⟩
  rw [← ((h b hb).2 q).2.2]
  simp [xr, xsr, hne]
theorem AE.wi {o k : Nat} {x : Int32} (h : AE K u K2 v) (ho : (K o).1 = 0) : AE K u K2 (xsi v o k x) := fun b hb => by
  have hne : b ≠ o := fun z => by rw [z] at hb; exact hb ho
  refine ⟨(h b hb).1, fun q => ⟨?_, ((h b hb).2 q).2.1, ((h b hb).2 q).2.2⟩⟩
  rw [← ((h b hb).2 q).1]
  simp [xi, xsi, hne]
theorem AE.nw {q : Nat} {y : Nat × Nat} (h : AE K u K2 v) (hq : (K2 q).1 = 0) : AE K u (xup K2 q y) (xz v q) := h.gen hq (fun b hb k => xz_ne hb k)
/-- a mark's house is laid -/
theorem Rep.sto {o q : Nat} (hR : Rep a K ow u m) (hq : q < 3) (hn : xr u (a 10) q = none) (ko : K o = (1, 4)) (oo : ow o = 70 + q) (hm : ∀ c, jm_i m 0 45 = nI c → c ≤ 3 → c ≤ q) : Rep a K ow (xsr u (a 10) q (some o)) m := by
  obtain ⟨hSt, hc, hy, hh, ⟨c, c1, c2, c3, c4⟩, s, as, hs1, hs2⟩ := hR
  have hO := hSt.2.1
  have o0 : ow (a 0) = 0 := hO 0 (by omega)
  have o2 : ow (a 2) = 2 := hO 2 (by omega)
  have o5 : ow (a 5) = 5 := hO 5 (by omega)
  have o10 : ow (a 10) = 10 := hO 10 (by omega)
  have os := hs2.2.1
  have hne : ∀ b k, ow b ≠ 10 → xr (xsr u (a 10) q (some o)) b k = xr u b k := fun b k hb => xr_oa ow (by omega)
  have hF : Fz K ow u K ow (xsr u (a 10) q (some o)) := ⟨fun _ _ => ⟨rfl, rfl⟩, fun b k _ ho => ⟨rfl, hne b k (by omega)⟩⟩
  refine ⟨hSt.g (fun _ _ => ⟨rfl, rfl⟩) (fun k _ _ => hne _ k (by omega)) (fun k _ => hne _ k (by omega)), hc, fun t ht => ?_, hh.fz hF (hne _ _ (by omega)) rfl (hne _ _ (by omega)), ⟨c, c1, c2, c3, fun i hi => ?_⟩, s, as, by rw [hne _ _ (by omega), hs1], ?_⟩
  · exact (hy t ht).g (hne _ _ (by have := hO (6 + t) (by omega); omega)) (fun b hb hob => ⟨rfl, rfl, fun k => ⟨rfl, rfl⟩⟩) rfl rfl (fun k _ => rfl)
  · have hcq := hm c c3 c1
    by_cases z : i = q
    · subst z
      exact Or.inr ⟨o, xr_same, ko, oo, fun hin => by omega⟩
    · rw [xr_ok z]
      rcases c4 i hi with x | ⟨p, p1, p2, p3, p4⟩
      · exact Or.inl x
      · exact Or.inr ⟨p, p1, p2, p3, fun hin => (p4 hin).fz hF (hne _ _ (by omega)) rfl (hne _ _ (by omega))⟩
  · unfold rSet at hs2 ⊢
    have es : ∀ k, xr (xsr u (a 10) q (some o)) s k = xr u s k := fun k => hne s k (by omega)
    simp only [es]
    exact hs2
theorem x_be {o p : Nat} {P : XS → Prop} (kp : K p = (1, 4)) (ko : K o = (1, 4)) (hne : p ≠ o) (hP : ∀ v, (∀ b k, b ≠ o → xi v b k = xi u b k ∧ xr v b k = xr u b k) → (∀ b k, xl v b k = xl u b k) → xr v o 0 = xr u p 0 → xi v o 1 = xi u p 1 → xr v o 2 = xr u p 2 → P v) : xw4_be o p K u P := by
  unfold xw4_be
  refine ⟨kp, ko, fun u5 e5 u13 e13 u21 e21 => ?_⟩
  subst e5 e13 e21
  refine hP _ (fun b k hb => ⟨?_, ?_⟩) (fun b k => rfl) ?_ ?_ ?_
  · simp [xi, xsi, xsr, hb]
  · simp [xr, xsi, xsr, hb]
  · simp [xr, xsi, xsr]
  · simp [xi, xsi, xsr, hne]
  · simp [xr, xsi, xsr, hne]
set_option maxHeartbeats 4000000 in
theorem m_copies {i j : Nat} {P : MS → Prop} (hi : i ≤ 3) (hj : j ≤ 3) (hij : i ≠ j) (hP : ∀ v, (∀ b q, ¬ (b = 1 ∧ 3300 * j ≤ q ∧ q < 3300 * j + 3300) → jm_i v b q = jm_i m b q) → (∀ b q, jm_l v b q = jm_l m b q) → sl v j = sl m i → P v) : mw_copies (nI i) (nI j) m P := by
  unfold mw_copies
  refine lp_st (fun n k v => mw_copies_L2 P (nI i) (nI j) n (nI k) v) (fun k v => (∀ b q, ¬ (b = 1 ∧ 3300 * j ≤ q ∧ q < 3300 * j + k) → jm_i v b q = jm_i m b q) ∧ (∀ b q, jm_l v b q = jm_l m b q) ∧ ∀ q, q < k → jm_i v 1 (3300 * j + q) = jm_i m 1 (3300 * i + q)) 3300 0 m (by omega)
    ⟨fun _ _ _ => rfl, fun _ _ => rfl, fun q hq => by omega⟩ (fun n v hI => ?_) (fun n k v hk hI ih => ?_)
  · unfold mw_copies_L2 mw_copies_L2_S
    simp (disch := omega) only [forall_eq, forall_eq', exists_eq_left, exists_eq_left', true_and, and_true, true_implies, false_implies, not_true_eq_false, not_false_eq_true, Prod.mk.injEq, Option.some.injEq, reduceCtorEq, and_self, implies_true, eq_self, Classical.not_not, and_false, false_and, ite_true, ite_false, reduceIte, bI_0, or_false, false_or, or_true, true_or, or_self, if_true, if_false, n_le_t, n_le_f, n_lt_t, n_lt_f, n_eq_t, n_eq_f, n_toInt, n_cl, n_vp, n_eqM, M_eqn, n_leM, n_ltM, M_len, M_ltn, M_add, n_sub, iM_toInt, x_lt_t, x_lt_f, x_le_t, x_le_f, lt_x_t, lt_x_f, le_x_t, le_x_f, x_eq_f, nI_add, pk_mul, bI_t, bI_f, Int32.toInt_toInt64, n_subI, x_add0, i_le_t, i_le_f, i_lt_t, i_lt_f, k_le_t, k_le_f, k_lt_t, k_lt_f, li_0, li_1, li_2, li_3, li_4, li_5, li_6, li_7, li_8, li_9, li_10, li_11, li_12, li_16, li_20, li_24, li_25, li_26, li_30, li_31, li_32, li_40, li_48, li_49, li_57, li_59, li_60, li_63, li_64, li_65, li_90, li_96, li_97, li_106, li_122, li_255, li_300, li_600, li_800, li_900, li_1850, li_2000, li_2010, li_2040, li_2801, li_3300, li_4161, li_9999, li_10163, li_16500, li_16800, li_17100, li_18350, li_18510, li_18540, li_65536, li_100000, li_999999, li_1000000, li_2147483647, im_1, im_8, ll_0, ll_1, ll_2, ll_3, ll_4, ll_6, ll_16, ll_20, ll_40, ll_63, ll_800, ll_9999, jm_same, jm_ob, jm_ok, jm_il, jm_li, jm_lsame, jm_lob, jm_lok, Nat.reduceAdd, Nat.reduceMul, Nat.zero_add, Nat.add_zero, Nat.mul_zero, Nat.zero_mul, e_mw_isSmall, e_mw_isDigit, e_mw_isDigit0, e_mw_isGreat, e_xs_isSmall, e_xs_isFigure, e_xs_isGreat, e_mw_isLetter, e_xs_isLetter, e_isBlank, e_xs_isBlank, e_isFrom, e_isIn]
    refine hP v hI.1 hI.2.1 ?_
    funext q
    unfold sl
    by_cases hq : q < 3300
    · simp only [hq, if_true]; exact hI.2.2 q hq
    · simp only [hq, if_false]
  · obtain ⟨h1, h2, h3⟩ := hI
    unfold mw_copies_L2 mw_copies_L2_S
    simp (disch := omega) only [forall_eq, forall_eq', exists_eq_left, exists_eq_left', true_and, and_true, true_implies, false_implies, not_true_eq_false, not_false_eq_true, Prod.mk.injEq, Option.some.injEq, reduceCtorEq, and_self, implies_true, eq_self, Classical.not_not, and_false, false_and, ite_true, ite_false, reduceIte, bI_0, or_false, false_or, or_true, true_or, or_self, if_true, if_false, n_le_t, n_le_f, n_lt_t, n_lt_f, n_eq_t, n_eq_f, n_toInt, n_cl, n_vp, n_eqM, M_eqn, n_leM, n_ltM, M_len, M_ltn, M_add, n_sub, iM_toInt, x_lt_t, x_lt_f, x_le_t, x_le_f, lt_x_t, lt_x_f, le_x_t, le_x_f, x_eq_f, nI_add, pk_mul, bI_t, bI_f, Int32.toInt_toInt64, n_subI, x_add0, i_le_t, i_le_f, i_lt_t, i_lt_f, k_le_t, k_le_f, k_lt_t, k_lt_f, li_0, li_1, li_2, li_3, li_4, li_5, li_6, li_7, li_8, li_9, li_10, li_11, li_12, li_16, li_20, li_24, li_25, li_26, li_30, li_31, li_32, li_40, li_48, li_49, li_57, li_59, li_60, li_63, li_64, li_65, li_90, li_96, li_97, li_106, li_122, li_255, li_300, li_600, li_800, li_900, li_1850, li_2000, li_2010, li_2040, li_2801, li_3300, li_4161, li_9999, li_10163, li_16500, li_16800, li_17100, li_18350, li_18510, li_18540, li_65536, li_100000, li_999999, li_1000000, li_2147483647, im_1, im_8, ll_0, ll_1, ll_2, ll_3, ll_4, ll_6, ll_16, ll_20, ll_40, ll_63, ll_800, ll_9999, jm_same, jm_ob, jm_ok, jm_il, jm_li, jm_lsame, jm_lob, jm_lok, Nat.reduceAdd, Nat.reduceMul, Nat.zero_add, Nat.add_zero, Nat.mul_zero, Nat.zero_mul, e_mw_isSmall, e_mw_isDigit, e_mw_isDigit0, e_mw_isGreat, e_xs_isSmall, e_xs_isFigure, e_xs_isGreat, e_mw_isLetter, e_xs_isLetter, e_isBlank, e_xs_isBlank, e_isFrom, e_isIn]
    refine ih _ ⟨fun b q hq => ?_, fun b q => h2 b q, fun q hq => ?_⟩
    · have hne : ¬ (b = 1 ∧ q = 3300 * j + k) := fun z => hq (by omega)
      rw [← h1 b q (fun z => hq (by omega))]
      simp only [jm_i, jm_s, if_neg hne]
    · by_cases z : q = k
      · subst z
        rw [jm_same, h1 _ _ (by omega)]
      · rw [jm_ok (by omega)]; exact h3 q (by omega)
/-- what is kept is marked -/
theorem Rep.mrk {o q : Nat} (hR : Rep a K ow u m) (hq : q < 3) (h45 : jm_i m 0 45 = nI q) (po : xr u (a 10) q = some o) (hv : ∀ b k, b ≠ o → ¬ (b = a 0 ∧ k = 12) → xi v b k = xi u b k) (hvr : ∀ b k, b ≠ o → xr v b k = xr u b k) (hvl : ∀ b k, xl v b k = xl u b k)
    (e12 : xi v (a 0) 12 = nI (q + 1)) (e0 : xr v o 0 = xr u (a 2) 0) (e1 : xi v o 1 = xi u (a 2) 1) (e2 : xr v o 2 = xr u (a 2) 2)
    (hn : ∀ b k, ¬ (b = 1 ∧ 3300 * (q + 1) ≤ k ∧ k < 3300 * (q + 1) + 3300) → ¬ (b = 0 ∧ k = 45) → jm_i n b k = jm_i m b k) (hnl : ∀ b k, jm_l n b k = jm_l m b k) (n45 : jm_i n 0 45 = nI (q + 1)) (hsl : sl n (q + 1) = sl m 0) : Rep a K ow v n := by
  obtain ⟨hSt, hc, hy, hh, ⟨c, c1, c2, c3, c4⟩, s, as, hs1, hs2⟩ := hR
  have hcq : c = q := by
    rw [c3] at h45
    exact (nI_eq (by omega) (by omega)).mp h45
  subst hcq
  have hO := hSt.2.1
  have o0 : ow (a 0) = 0 := hO 0 (by omega)
  have o1 : ow (a 1) = 1 := hO 1 (by omega)
  have o2 : ow (a 2) = 2 := hO 2 (by omega)
  have o3 : ow (a 3) = 3 := hO 3 (by omega)
  have o4 : ow (a 4) = 4 := hO 4 (by omega)
  have o5 : ow (a 5) = 5 := hO 5 (by omega)
  have o10 : ow (a 10) = 10 := hO 10 (by omega)
  have os := hs2.2.1
  obtain ⟨ko, oo⟩ : K o = (1, 4) ∧ ow o = 70 + c := by
    rcases c4 c hq with ⟨_, x⟩ | ⟨p, p1, p2, p3, _⟩
    · rw [po] at x; simp at x
    · rw [po] at p1; injection p1 with p1; subst p1; exact ⟨p2, p3⟩
  have hr : ∀ b k, ow b ≠ 70 + c → xr v b k = xr u b k := fun b k hb => hvr b k (fun z => hb (by rw [z]; exact oo))
  have hi : ∀ b k, ow b ≠ 70 + c → ow b ≠ 0 → xi v b k = xi u b k := fun b k hb h0 => hv b k (fun z => hb (by rw [z]; exact oo)) (fun z => h0 (by rw [z.1]; exact o0))
  have h0i : ∀ k, k ≠ 12 → xi v (a 0) k = xi u (a 0) k := fun k hk => hv _ k (fun z => by rw [z] at o0; omega) (fun z => hk z.2)
  have hF : Fz K ow u K ow v := ⟨fun _ _ => ⟨rfl, rfl⟩, fun b k _ ho => ⟨hi b k (by omega) (by omega), hr b k (by omega)⟩⟩
  have es : ∀ i, i ≤ 3 → i ≠ c + 1 → sl n i = sl m i := fun i h1 h2 => by
    funext k
    unfold sl
    by_cases hk : k < 3300
    · simp only [hk, if_true]; exact hn _ _ (by omega) (by omega)
    · simp only [hk, if_false]
  have mm : ∀ b k, b ≠ 1 → ¬ (b = 0 ∧ k = 45) → jm_i n b k = jm_i m b k := fun b k h1 h2 => hn b k (by omega) h2
  refine ⟨hSt.g (fun _ _ => ⟨rfl, rfl⟩) (fun k _ _ => hr _ k (by omega)) (fun k _ => hr _ k (by omega)), ?_, fun t ht => ?_, ?_, ⟨c + 1, by omega, e12, n45, fun i hi3 => ?_⟩, s, as, by rw [hr _ _ (by omega), hs1], ?_⟩
  · obtain ⟨⟨d1, dq, d2, d3⟩, d4, d5, d6, d7, d8, d9, _, _⟩ := id hc
    exact rSca.of hc ⟨dq, by rw [h0i _ (by omega), d1, d2], by rw [mm _ _ (by omega) (by omega), d2], d3⟩ (by rw [h0i _ (by omega), mm _ _ (by omega) (by omega), d4]) (by rw [h0i _ (by omega), mm _ _ (by omega) (by omega), d5]) (by rw [h0i _ (by omega), mm _ _ (by omega) (by omega), d6]) (by rw [hvl, hnl, d7]) (by rw [hvl, hnl, d8])
      (fun k hk => by rw [hi _ _ (by omega) (by omega), mm _ _ (by omega) (by omega)]; exact d9 k hk) (h0i _ (by omega)) (h0i _ (by omega)) (h0i _ (by omega)) (fun k => hi _ k (by omega) (by omega)) (fun k => hi _ k (by omega) (by omega)) (mm _ _ (by omega) (by omega)) (mm _ _ (by omega) (by omega)) (mm _ _ (by omega) (by omega)) (fun k => mm _ k (by omega) (by omega)) (fun k => mm _ k (by omega) (by omega))
  · exact (hy t ht).g (hr _ _ (by have := hO (6 + t) (by omega); omega)) (fun b hb hob => ⟨rfl, rfl, fun k => ⟨hi b k (by omega) (by omega), hvl b k⟩⟩) (mm _ _ (by omega) (by omega)) (mm _ _ (by omega) (by omega)) (fun k _ => hnl _ _)
  · rw [es 0 (by omega) (by omega)]
    exact hh.fz hF (hr _ _ (by omega)) (hi _ _ (by omega) (by omega)) (hr _ _ (by omega))
  · rw [hr _ _ (by omega)]
    by_cases z : i = c
    · subst z
      refine Or.inr ⟨o, po, ko, oo, fun _ => ?_⟩
      rw [hsl]
      obtain ⟨x1, x2, x3, ⟨tb, x4, x5⟩, x6, x7⟩ := hh
      refine ⟨x1, x2, ko, ⟨tb, by rw [e0, x4], x5.fz hF⟩, by rw [e1, x6], ?_⟩
      rcases x7 with ⟨y1, y2⟩ | ⟨y1, w, y2, y3⟩
      · exact Or.inl ⟨y1, by rw [e2, y2]⟩
      · exact Or.inr ⟨y1, w, by rw [e2, y2], y3.fz hF⟩
    · rw [es _ (by omega) (by omega)]
      rcases c4 i hi3 with ⟨x1, x2⟩ | ⟨p, p1, p2, p3, p4⟩
      · exact Or.inl ⟨by omega, x2⟩
      · exact Or.inr ⟨p, p1, p2, p3, fun hin => (p4 (by omega)).fz hF (hr _ _ (by omega)) (hi _ _ (by omega) (by omega)) (hr _ _ (by omega))⟩
  · unfold rSet at hs2 ⊢
    have es : ∀ k, xr v s k = xr u s k := fun k => hr s k (by omega)
    simp only [es]
    exact hs2
end XBS
