/-! PLAIN LAW: the first reading -/
set_option linter.unusedVariables false
theorem wyW_st {h A F : Nat → Int32} {many : Nat} {j k : Nat} (hk : many - j ≤ k) : ∀ d, j + d ≤ many → wyW h A F many (j + d) k = wyW h A F many j k
  | 0, _ => rfl
  | d + 1, hd => by
    show up (wyW h A F many (j + d)) (many - 1 - (j + d)) _ k = _
    rw [up_n (by omega)]
    exact wyW_st hk d (by omega)
theorem wyW_e {h A F : Nat → Int32} {many : Nat} : wyW h A F many many many = 1 := by
  have := wyW_st (h := h) (A := A) (F := F) (many := many) (j := 0) (k := many) (by omega) many (by omega)
  rw [Nat.zero_add] at this
  rw [this]
  show up _ _ _ _ = _
  rw [up_s]
theorem wyW_p {h A F : Nat → Int32} {many p : Nat} (hT : WT h) (hp : p < many) : wyW h A F many many p = it (wyI h A F many (wyW h A F many many) p) 0 (hN h 0) := by
  have e := wyW_st (h := h) (A := A) (F := F) (many := many) (j := many - 1 - p + 1) (k := p) (by omega) p (by omega)
  rw [show many - 1 - p + 1 + p = many by omega] at e
  rw [e]
  show up _ _ _ p = _
  rw [show many - 1 - (many - 1 - p) = p by omega, up_s]
  unfold wyF
  refine it_cong _ (fun r n hr => ?_)
  by_cases c : rdP h A F r p many
  · rw [wyI_t c, wyI_t c]
    have h1 := (hT.2.2.2.2.2.2 r hr).2.2.1.2.1
    have := wyW_st (h := h) (A := A) (F := F) (many := many) (j := many - 1 - p) (k := p + hN h (12 + 12 * r + 7)) (by omega) (p + 1) (by omega)
    rw [show many - 1 - p + (p + 1) = many by omega] at this
    rw [this]
  · rw [wyI_f c, wyI_f c]
def nxP (h A F : Nat → Int32) (many p r : Nat) : Prop := rdP h A F r p many ∧ wyW h A F many many (p + hN h (12 + 12 * r + 7)) ≠ 0
theorem wyW_nx {h A F : Nat → Int32} {many p : Nat} (hT : WT h) (hp : p < many) (hW : wyW h A F many many p ≠ 0) : ∃ r, r < hN h 0 ∧ nxP h A F many p r := by
  refine Classical.byContradiction (fun hn => hW ?_)
  rw [wyW_p hT hp]
  refine it_inv (fun _ s => s = 0) rfl _ (fun r s hr hs => ?_)
  by_cases c : rdP h A F r p many
  · rw [wyI_t c]
    have : wyW h A F many many (p + hN h (12 + 12 * r + 7)) = 0 := by
      refine Classical.byContradiction (fun z => hn ⟨r, hr, c, z⟩)
    rw [this, hs]
    rfl
  · rw [wyI_f c]; exact hs
/-- the first reading from a place on: how many rules, letters; which -/
noncomputable def ftD (h A F : Nat → Int32) (many : Nat) : Nat → Nat → Nat → Nat → (Nat → Nat) → Nat × Nat × (Nat → Nat)
  | 0, p, cnt, lt, f => (cnt, lt, f)
  | d + 1, p, cnt, lt, f => cI (many ≤ p) (cnt, lt, f) (match fsS (nxP h A F many p) (hN h 0) with
    | none => (cnt, lt, f)
    | some r => ftD h A F many d (p + hN h (12 + 12 * r + 7)) (cnt + 1) (lt + hN h (12 + 12 * r)) (up f cnt r))
theorem ftD_e {h A F : Nat → Int32} {many d p cnt lt : Nat} {f : Nat → Nat} (c : many ≤ p) : ftD h A F many (d + 1) p cnt lt f = (cnt, lt, f) := cI_t c
theorem ftD_s {h A F : Nat → Int32} {many d p cnt lt r : Nat} {f : Nat → Nat} (c : ¬ many ≤ p) (e : fsS (nxP h A F many p) (hN h 0) = some r) : ftD h A F many (d + 1) p cnt lt f = ftD h A F many d (p + hN h (12 + 12 * r + 7)) (cnt + 1) (lt + hN h (12 + 12 * r)) (up f cnt r) := by
  conv => lhs; unfold ftD
  rw [cI_f c, e]
section XCC
variable {a : Nat → Nat} {K : XK} {ow : Nat → Nat} {u v : XS} {m n : MS} {A F : Nat → Int32}
/-- both sides with a first reading -/
theorem Rep.fst {cnt lt : Nat} {f : Nat → Nat} (hR : Rep a K ow u m) (hc : cnt ≤ 20) (hlt : lt ≤ 1000) (hf : ∀ k, k < cnt → f k < 24)
    (hi : ∀ b k, ¬ (b = a 0 ∧ (k = 19 ∨ k = 20)) → b ≠ a 3 → xi v b k = xi u b k) (hl : ∀ b k, xl v b k = xl u b k) (hr : ∀ b k, xr v b k = xr u b k) (e19 : xi v (a 0) 19 = nI cnt) (e20 : xi v (a 0) 20 = nI lt) (e3 : ∀ k, k < cnt → xi v (a 3) k = nI (f k))
    (hn : ∀ b k, ¬ scr b k → ¬ (b = 0 ∧ (k = 36 ∨ k = 37)) → b ≠ 17 → jm_i n b k = jm_i m b k) (hs : jm_i n 0 1 = jm_i m 0 1) (hnl : ∀ b k, ¬ scr b k → jm_l n b k = jm_l m b k) (n36 : jm_i n 0 36 = if cnt = 0 then iM else nI cnt) (n37 : jm_i n 0 37 = nI lt) (n17 : ∀ k, k < cnt → jm_i n 17 k = nI (f k)) : Rep a K ow v n := by
  have o0 : ow (a 0) = 0 := hR.1.2.1 0 (by omega)
  have o1 : ow (a 1) = 1 := hR.1.2.1 1 (by omega)
  have o3 : ow (a 3) = 3 := hR.1.2.1 3 (by omega)
  have o4 : ow (a 4) = 4 := hR.1.2.1 4 (by omega)
  have n30 : a 0 ≠ a 3 := fun z => by rw [z] at o0; omega
  have n31 : a 1 ≠ a 3 := fun z => by rw [z] at o1; omega
  have n34 : a 4 ≠ a 3 := fun z => by rw [z] at o4; omega
  have n01 : a 1 ≠ a 0 := fun z => by rw [z] at o1; omega
  have n04 : a 4 ≠ a 0 := fun z => by rw [z] at o4; omega
  have h0 : ∀ k, k ≠ 19 → k ≠ 20 → xi v (a 0) k = xi u (a 0) k := fun k h1 h2 => hi _ k (by omega) n30
  have hb : ∀ b k, ow b ≠ 0 → ow b ≠ 3 → xi v b k = xi u b k := fun b k h1 h2 => hi b k (fun z => h1 (by rw [z.1, o0])) (fun z => h2 (by rw [z, o3]))
  have mm : ∀ b k, ¬ scr b k → ¬ (b = 0 ∧ (k = 36 ∨ k = 37)) → b ≠ 17 → jm_i n b k = jm_i m b k := hn
  obtain ⟨⟨d1, dq, d2, d3⟩, d4, d5, d6, d7, d8, d9, d10, d11⟩ := id hR.2.1
  refine hR.sca ?_ (h0 _ (by omega) (by omega)) (fun b k y0 y1 y3 y4 _ => hb b k y0 y3) (fun b k _ => hl b k) hr (fun k hk => mm 1 k (by unfold scr; omega) (by omega) (by omega)) (fun k => mm 2 k (by unfold scr; omega) (by omega) (by omega)) (fun k => mm 3 k (by unfold scr; omega) (by omega) (by omega)) (fun k => hnl 4 k (by unfold scr; omega)) (mm 0 45 (by unfold scr; omega) (by omega) (by omega))
  have m9 := mm 0 9 (by unfold scr; omega) (by omega) (by omega)
  have m15 := mm 0 15 (by unfold scr; omega) (by omega) (by omega)
  have m16 := mm 0 16 (by unfold scr; omega) (by omega) (by omega)
  have m42 := mm 0 42 (by unfold scr; omega) (by omega) (by omega)
  refine ⟨⟨by rw [h0 _ (by omega) (by omega), d1, m9], dq, by rw [m9, d2], d3⟩, by rw [h0 _ (by omega) (by omega), d4, m15], by rw [h0 _ (by omega) (by omega), d5, m16], by rw [h0 _ (by omega) (by omega), d6, hs], by rw [hl, hnl 0 2 (by unfold scr; omega), d7], by rw [hl, hnl 0 3 (by unfold scr; omega), d8], fun k hk => ?_, ?_, ?_⟩
  · rw [hi _ _ (fun z => n01 z.1) n31, mm 5 k (by unfold scr; omega) (by omega) (by omega)]
    exact d9 k hk
  · by_cases z : cnt = 0
    · rw [if_pos z] at n36
      exact Or.inl ⟨by rw [e19, z], n36⟩
    · rw [if_neg z] at n36
      exact Or.inr ⟨cnt, by omega, hc, e19, n36, ⟨lt, e20, n37, hlt⟩, fun k hk => ⟨f k, e3 k hk, n17 k hk, hf k hk⟩⟩
  · rw [h0 _ (by omega) (by omega), m42]
    rcases d11 with z | ⟨q, q1, q2, q3, q4⟩
    · exact Or.inl z
    · exact Or.inr ⟨q, q1, q2, q3, fun k hk => by rw [hi _ _ (fun z => n04 z.1) n34, mm 22 k (by unfold scr; omega) (by omega) (by omega)]; exact q4 k hk⟩
/-- a memory of the reference with this first reading -/
def fMS (m : MS) (cnt lt : Nat) (f : Nat → Nat) : MS := (fun b k => if b = 0 ∧ k = 36 then (if cnt = 0 then iM else nI cnt) else if b = 0 ∧ k = 37 then nI lt else if b = 17 then nI (f k) else m.1 b k, m.2)
theorem Rep.fm {cnt lt : Nat} {f : Nat → Nat} (hR : Rep a K ow u m) (hc : cnt ≤ 20) (hlt : lt ≤ 1000) (hf : ∀ k, k < cnt → f k < 24)
    (hi : ∀ b k, ¬ (b = a 0 ∧ (k = 19 ∨ k = 20)) → b ≠ a 3 → xi v b k = xi u b k) (hl : ∀ b k, xl v b k = xl u b k) (hr : ∀ b k, xr v b k = xr u b k) (e19 : xi v (a 0) 19 = nI cnt) (e20 : xi v (a 0) 20 = nI lt) (e3 : ∀ k, k < cnt → xi v (a 3) k = nI (f k)) : Rep a K ow v (fMS m cnt lt f) := by
  refine hR.fst hc hlt hf hi hl hr e19 e20 e3 (fun b k _ h1 h2 => ?_) ?_ (fun _ _ _ => rfl) ?_ ?_ (fun k hk => ?_)
  · have g1 : ¬ (b = 0 ∧ k = 36) := by omega
    have g2 : ¬ (b = 0 ∧ k = 37) := by omega
    simp only [jm_i, fMS, if_neg g1, if_neg g2, if_neg h2]
  · simp [jm_i, fMS]
  · simp [jm_i, fMS]
  · simp [jm_i, fMS]
  · simp [jm_i, fMS]
theorem fMS_sl {cnt lt : Nat} {f : Nat → Nat} : sl (fMS m cnt lt f) 0 = sl m 0 := by
  funext k
  unfold sl
  by_cases hk : k < 3300
  · simp only [hk, if_true]
    simp [jm_i, fMS]
  · simp only [hk, if_false]
def xFt (a : Nat → Nat) (u v : XS) (cnt lt : Nat) (f : Nat → Nat) : Prop :=
  (∀ b k, ¬ (b = a 0 ∧ (k = 19 ∨ k = 20)) → b ≠ a 3 → xi v b k = xi u b k) ∧ (∀ b k, xl v b k = xl u b k) ∧ (∀ b k, xr v b k = xr u b k) ∧ xi v (a 0) 19 = nI cnt ∧ xi v (a 0) 20 = nI lt ∧ ∀ k, k < cnt → xi v (a 3) k = nI (f k)
set_option maxHeartbeats 8000000 in
theorem x_firstL {many mc ms : Nat} {P : Int32 → XK → XS → Prop} (hR : Rep a K ow u m) (hm : many ≤ 20) (hA : ∀ k, k < many → xi u (a 14) k = A k) (hF : ∀ k, k < many → xi u (a 15) k = F k) (hW : ∀ k, k ≤ many → xi u (a 16) k = nI (wyW (sl m 0) A F many many k))
    (hP : ∀ v, (ftD (sl m 0) A F many (many + 1) 0 0 0 (fun _ => 0)).1 ≤ 20 → (ftD (sl m 0) A F many (many + 1) 0 0 0 (fun _ => 0)).2.1 ≤ 1000 → (∀ k, k < (ftD (sl m 0) A F many (many + 1) 0 0 0 (fun _ => 0)).1 → (ftD (sl m 0) A F many (many + 1) 0 0 0 (fun _ => 0)).2.2 k < 24) → xFt a u v (ftD (sl m 0) A F many (many + 1) 0 0 0 (fun _ => 0)).1 (ftD (sl m 0) A F many (many + 1) 0 0 0 (fun _ => 0)).2.1 (ftD (sl m 0) A F many (many + 1) 0 0 0 (fun _ => 0)).2.2 → P (nI (ftD (sl m 0) A F many (many + 1) 0 0 0 (fun _ => 0)).1) K v)
    (h0 : wyW (sl m 0) A F many many 0 ≠ 0) {c0 s0 : Nat} {v0 : XS} (hv0 : xFt a u v0 0 0 (fun _ => 0)) : ∃ q, xw0_first_L51 P mc ms (a 0) (nI many) q (nI 0) K v0 c0 s0 := by
  have hT : WT (sl m 0) := hR.2.2.2.1.1
  have g0l := hT.1.2
  have k0 := hR.1.1.1
  have o0 : ow (a 0) = 0 := hR.1.2.1 0 (by omega)
  have o3 : ow (a 3) = 3 := hR.1.2.1 3 (by omega)
  have o14 : ow (a 14) = 14 := hR.1.2.1 14 (by omega)
  have o15 : ow (a 15) = 15 := hR.1.2.1 15 (by omega)
  have o16 : ow (a 16) = 16 := hR.1.2.1 16 (by omega)
  have p17 : xr u (a 0) 17 = some (a 16) := hR.1.2.2.1.2.2.2.2.2.2.2.2.2.1
  have p18 : xr u (a 0) 18 = some (a 3) := hR.1.2.2.1.2.2.2.2.2.2.2.2.2.2.1
  have k16 : K (a 16) = (2, 21) := hR.1.1.2.2.2.2.2.2.2.2.2.2.2.2.2.2.2.2.1
  have k3 : K (a 3) = (2, 20) := hR.1.1.2.2.2.1
  have key : ∀ d p cnt lt f v, many - p < d → p ≤ many → (p < many → wyW (sl m 0) A F many many p ≠ 0) → cnt ≤ p → lt ≤ 6 * p → (∀ k, k < cnt → f k < 24) → xFt a u v cnt lt f →
      (∀ v, (ftD (sl m 0) A F many d p cnt lt f).1 ≤ 20 → (ftD (sl m 0) A F many d p cnt lt f).2.1 ≤ 1000 → (∀ k, k < (ftD (sl m 0) A F many d p cnt lt f).1 → (ftD (sl m 0) A F many d p cnt lt f).2.2 k < 24) → xFt a u v (ftD (sl m 0) A F many d p cnt lt f).1 (ftD (sl m 0) A F many d p cnt lt f).2.1 (ftD (sl m 0) A F many d p cnt lt f).2.2 → P (nI (ftD (sl m 0) A F many d p cnt lt f).1) K v) →
      xw0_first_L51 P mc ms (a 0) (nI many) d (nI p) K v c0 s0 := by
    intro d
    induction d with
    | zero => intro p cnt lt f v hd; omega
    | succ d ih =>
      intro p cnt lt f v hd hp hWp hcnt hlt hf hX hP
      unfold xw0_first_L51 xw0_first_L51_S
      by_cases hz : many ≤ p
      · rw [ftD_e hz] at hP
        have e19 := hX.2.2.2.1
        have := hP v (by show cnt ≤ 20; omega) (by show lt ≤ 1000; omega) hf hX
        simp (disch := omega) only [k0, e19, forall_eq, forall_eq', exists_eq_left, exists_eq_left', true_and, and_true, true_implies, false_implies, not_true_eq_false, not_false_eq_true, Prod.mk.injEq, Option.some.injEq, reduceCtorEq, and_self, implies_true, eq_self, Classical.not_not, and_false, false_and, ite_true, ite_false, reduceIte, bI_0, or_false, false_or, or_true, true_or, or_self, if_true, if_false, n_le_t, n_le_f, n_lt_t, n_lt_f, n_eq_t, n_eq_f, n_toInt, n_cl, n_vp, n_eqM, M_eqn, n_leM, n_ltM, M_len, M_ltn, M_add, n_sub, iM_toInt, x_lt_t, x_lt_f, x_le_t, x_le_f, lt_x_t, lt_x_f, le_x_t, le_x_f, x_eq_f, nI_add, pk_mul, bI_t, bI_f, Int32.toInt_toInt64, n_subI, x_add0, i_le_t, i_le_f, i_lt_t, i_lt_f, k_le_t, k_le_f, k_lt_t, k_lt_f, li_0, li_1, li_2, li_3, li_4, li_5, li_6, li_7, li_8, li_9, li_10, li_11, li_12, li_16, li_20, li_24, li_25, li_26, li_30, li_31, li_32, li_40, li_48, li_49, li_57, li_59, li_60, li_63, li_64, li_65, li_90, li_96, li_97, li_106, li_122, li_255, li_300, li_600, li_800, li_900, li_1850, li_2000, li_2010, li_2040, li_2801, li_3300, li_4161, li_9999, li_10163, li_16500, li_16800, li_17100, li_18350, li_18510, li_18540, li_65536, li_100000, li_999999, li_1000000, li_2147483647, im_1, im_8, ll_0, ll_1, ll_2, ll_3, ll_4, ll_6, ll_16, ll_20, ll_40, ll_63, ll_800, ll_9999, jm_same, jm_ob, jm_ok, jm_il, jm_li, jm_lsame, jm_lob, jm_lok, Nat.reduceAdd, Nat.reduceMul, Nat.zero_add, Nat.add_zero, Nat.mul_zero, Nat.zero_mul, e_mw_isSmall, e_mw_isDigit, e_mw_isDigit0, e_mw_isGreat, e_xs_isSmall, e_xs_isFigure, e_xs_isGreat, e_mw_isLetter, e_xs_isLetter, e_isBlank, e_xs_isBlank, e_isFrom, e_isIn]
        exact this
      · obtain ⟨r0, hr0, hnx⟩ := wyW_nx hT (show p < many by omega) (hWp (by omega))
        cases he : fsS (nxP (sl m 0) A F many p) (hN (sl m 0) 0) with
        | none => exact absurd hnx (fsS_none he r0 hr0)
        | some r =>
          rw [ftD_s hz he] at hP
          obtain ⟨y1, y2, y3⟩ := fsS_some he
          obtain ⟨_, _, ⟨c0', c0a, c0b⟩, _, _⟩ := hT.2.2.2.2.2.2 r y1
          have l6 := (hT.2.2.2.2.2.2 r y1).1.2
          have hle := y2.1.2.1
          have hRv : Rep a K ow v (fMS m cnt lt f) := hR.fm (by omega) (by omega) hf hX.1 hX.2.1 hX.2.2.1 hX.2.2.2.1 hX.2.2.2.2.1 hX.2.2.2.2.2
          have oth : ∀ b k, ow b ≠ 0 → ow b ≠ 3 → xi v b k = xi u b k := fun b k h1 h2 => hX.1 b k (fun z => h1 (by rw [z.1, o0])) (fun z => h2 (by rw [z, o3]))
          have hAv : ∀ k, k < many → xi v (a 14) k = A k := fun k hk => by rw [oth _ _ (by omega) (by omega), hA k hk]
          have hFv : ∀ k, k < many → xi v (a 15) k = F k := fun k hk => by rw [oth _ _ (by omega) (by omega), hF k hk]
          have hWv : ∀ k, k ≤ many → xi v (a 16) k = nI (wyW (sl m 0) A F many many k) := fun k hk => by rw [oth _ _ (by omega) (by omega), hW k hk]
          have p17v : xr v (a 0) 17 = some (a 16) := by rw [hX.2.2.1, p17]
          have hlt2 : (nI many ≤ nI p) = False := n_le_f (by omega) (by omega)
          refine ⟨fun z => absurd z (by rw [hlt2]; exact id), fun _ => ?_⟩
          refine lp_up (fun q k => xw0_first_L59 (xw0_first_L51 P mc ms (a 0) (nI many) d) P mc ms (a 0) (nI many) (nI p) q (nI k) K v c0 s0) r 0 (Nat.zero_le _) (fun q => ?_) (fun q k hk ih2 => ?_)
          · unfold xw0_first_L59 xw0_first_L59_S
            refine ⟨k0, x_stands0 (A := A) (F := F) hRv (by rw [fMS_sl]; exact y1) (by omega) hm hAv hFv ?_⟩
            rw [fMS_sl, cI_t y2.1]
            refine ⟨fun z => absurd z (by decide), fun _ => x_at hRv (by rw [fMS_sl]; exact y1) (fun o ho => ?_)⟩
            rw [fMS_sl] at ho
            obtain ⟨la, ca, pla, kla, pca, kca⟩ := ho.cl
            have e16 := hWv (p + hN (sl m 0) (12 + 12 * r + 7)) hle
            have hWle := wyW_le (h := sl m 0) (A := A) (F := F) (many := many) many (p + hN (sl m 0) (12 + 12 * r + 7))
            refine ⟨ho.x hT y1, ca, pca, _, kca, a 16, p17v, 21, k16, ?_⟩
            rw [nI_add, n_cl (by omega), e16]
            have hw0 : ¬ nI (wyW (sl m 0) A F many many (p + hN (sl m 0) (12 + 12 * r + 7))) = (0 : Int32) := nI_ne0 (by have := y2.2; omega) (by omega)
            refine ⟨vp_in_nI (by omega) (by omega), fun _ => ?_, fun z => absurd z hw0⟩
            have e19 := hX.2.2.2.1
            have p18v : xr v (a 0) 18 = some (a 3) := by rw [hX.2.2.1, p18]
            rw [e19, n_cl (by omega)]
            refine ⟨a 3, p18v, 20, k3, vp_in_nI (by omega) (by omega), fun u106 e106 u114 e114 => ?_⟩
            have n30 : a 0 ≠ a 3 := fun z => by rw [z] at o0; omega
            have e114' : u114 = xsi (xsi v (a 3) cnt (nI r)) (a 0) 19 (nI (cnt + 1)) := by
              rw [e114, e106]
              have : xi (xsi v (a 3) cnt (nI r)) (a 0) 19 = nI cnt := by simp [xi, xsi, n30]; exact e19
              rw [this]
              congr 1
              exact nI_add cnt 1
            have hf1 : ∀ k, k < cnt + 1 → up f cnt r k < 24 := fun k hk => by
              by_cases z : k = cnt
              · subst z; rw [up_s]; omega
              · rw [up_n z]; exact hf k (by omega)
            have X1 : xFt a u (xsi u114 (a 0) 20 (nI lt)) (cnt + 1) lt (up f cnt r) := by
              rw [e114']
              refine ⟨fun b k h1 h2 => ?_, hX.2.1, hX.2.2.1, ?_, xi_same, fun k hk => ?_⟩
              · have g1 : ¬ (b = a 0 ∧ k = 20) := fun z => h1 (by omega)
                have g2 : ¬ (b = a 0 ∧ k = 19) := fun z => h1 (by omega)
                rw [← hX.1 b k h1 h2]
                simp only [xi, xsi, if_neg g1, if_neg g2]
                simp [h2]
              · rw [xi_ok (by omega), xi_same]
              · rw [xi_oa ow (by omega), xi_oa ow (by omega)]
                by_cases z : k = cnt
                · subst z; rw [xi_same, up_s]
                · rw [xi_ok z, up_n z]; exact hX.2.2.2.2.2 k (by omega)
            have e20 : xi u114 (a 0) 20 = nI lt := by rw [e114', xi_ok (by omega), xi_oa ow (by omega)]; exact hX.2.2.2.2.1
            have X1' : xsi u114 (a 0) 20 (nI lt) = u114 := by
              rw [← e20]
              refine Prod.ext ?_ rfl
              funext b k
              show (if b = a 0 ∧ k = 20 then _ else _) = _
              by_cases z : b = a 0 ∧ k = 20
              · rw [if_pos z, z.1, z.2]; rfl
              · rw [if_neg z]
            rw [X1'] at X1
            have hR1 : Rep a K ow u114 (fMS m (cnt + 1) lt (up f cnt r)) := hR.fm (by omega) (by omega) hf1 X1.1 X1.2.1 X1.2.2.1 X1.2.2.2.1 X1.2.2.2.2.1 X1.2.2.2.2.2
            refine x_at hR1 (by rw [fMS_sl]; exact y1) (fun o2 ho2 => ?_)
            rw [fMS_sl] at ho2
            obtain ⟨la2, ca2, pla2, kla2, pca2, kca2⟩ := ho2.cl
            refine ⟨ho2.x hT y1, la2, pla2, _, kla2, fun u133 e133 => ?_⟩
            rw [e20, nI_add] at e133
            have X2 : xFt a u u133 (cnt + 1) (lt + hN (sl m 0) (12 + 12 * r)) (up f cnt r) := by
              rw [e133]
              refine ⟨fun b k h1 h2 => ?_, X1.2.1, X1.2.2.1, ?_, xi_same, fun k hk => ?_⟩
              · have g1 : ¬ (b = a 0 ∧ k = 20) := fun z => h1 (by omega)
                rw [← X1.1 b k h1 h2]
                simp only [xi, xsi, if_neg g1]
              · rw [xi_ok (by omega)]; exact X1.2.2.2.1
              · rw [xi_oa ow (by omega)]; exact X1.2.2.2.2.2 k hk
            have hR2 : Rep a K ow u133 (fMS m (cnt + 1) (lt + hN (sl m 0) (12 + 12 * r)) (up f cnt r)) := hR.fm (by omega) (by omega) hf1 X2.1 X2.2.1 X2.2.2.1 X2.2.2.2.1 X2.2.2.2.2.1 X2.2.2.2.2.2
            refine x_at hR2 (by rw [fMS_sl]; exact y1) (fun o3 ho3 => ?_)
            rw [fMS_sl] at ho3
            obtain ⟨la3, ca3, pla3, kla3, pca3, kca3⟩ := ho3.cl
            refine ⟨ho3.x hT y1, ca3, pca3, _, kca3, fun v148 e148 => ?_⟩
            rw [nI_add] at e148
            subst e148
            exact ih (p + hN (sl m 0) (12 + 12 * r + 7)) (cnt + 1) (lt + hN (sl m 0) (12 + 12 * r)) (up f cnt r) u133 (by omega) hle (fun _ => y2.2) (by omega) (by omega) hf1 X2 hP
          · unfold xw0_first_L59 xw0_first_L59_S
            have hk2 := y3 k hk
            refine ⟨k0, x_stands0 (A := A) (F := F) hRv (by rw [fMS_sl]; omega) (by omega) hm hAv hFv ?_⟩
            rw [fMS_sl]
            by_cases c : rdP (sl m 0) A F k p many
            · rw [cI_t c]
              have hW0 : wyW (sl m 0) A F many many (p + hN (sl m 0) (12 + 12 * k + 7)) = 0 := Classical.byContradiction (fun z => hk2 ⟨c, z⟩)
              have hkr : k < hN (sl m 0) 0 := by omega
              obtain ⟨_, _, ⟨_, cka, ckb⟩, _, _⟩ := hT.2.2.2.2.2.2 k hkr
              refine ⟨fun z => absurd z (by decide), fun _ => x_at hRv (by rw [fMS_sl]; exact hkr) (fun o ho => ?_)⟩
              rw [fMS_sl] at ho
              obtain ⟨la, ca, pla, kla, pca, kca⟩ := ho.cl
              have e16 := hWv (p + hN (sl m 0) (12 + 12 * k + 7)) c.2.1
              rw [hW0] at e16
              have hcl := c.2.1
              refine ⟨ho.x hT hkr, ca, pca, _, kca, a 16, p17v, 21, k16, ?_⟩
              rw [nI_add, n_cl (by omega), e16]
              refine ⟨vp_in_nI (by omega) (by omega), fun z => absurd rfl z, fun _ => ?_⟩
              simp (disch := omega) only [forall_eq, forall_eq', exists_eq_left, exists_eq_left', true_and, and_true, true_implies, false_implies, not_true_eq_false, not_false_eq_true, Prod.mk.injEq, Option.some.injEq, reduceCtorEq, and_self, implies_true, eq_self, Classical.not_not, and_false, false_and, ite_true, ite_false, reduceIte, bI_0, or_false, false_or, or_true, true_or, or_self, if_true, if_false, n_le_t, n_le_f, n_lt_t, n_lt_f, n_eq_t, n_eq_f, n_toInt, n_cl, n_vp, n_eqM, M_eqn, n_leM, n_ltM, M_len, M_ltn, M_add, n_sub, iM_toInt, x_lt_t, x_lt_f, x_le_t, x_le_f, lt_x_t, lt_x_f, le_x_t, le_x_f, x_eq_f, nI_add, pk_mul, bI_t, bI_f, Int32.toInt_toInt64, n_subI, x_add0, i_le_t, i_le_f, i_lt_t, i_lt_f, k_le_t, k_le_f, k_lt_t, k_lt_f, li_0, li_1, li_2, li_3, li_4, li_5, li_6, li_7, li_8, li_9, li_10, li_11, li_12, li_16, li_20, li_24, li_25, li_26, li_30, li_31, li_32, li_40, li_48, li_49, li_57, li_59, li_60, li_63, li_64, li_65, li_90, li_96, li_97, li_106, li_122, li_255, li_300, li_600, li_800, li_900, li_1850, li_2000, li_2010, li_2040, li_2801, li_3300, li_4161, li_9999, li_10163, li_16500, li_16800, li_17100, li_18350, li_18510, li_18540, li_65536, li_100000, li_999999, li_1000000, li_2147483647, im_1, im_8, ll_0, ll_1, ll_2, ll_3, ll_4, ll_6, ll_16, ll_20, ll_40, ll_63, ll_800, ll_9999, jm_same, jm_ob, jm_ok, jm_il, jm_li, jm_lsame, jm_lob, jm_lok, Nat.reduceAdd, Nat.reduceMul, Nat.zero_add, Nat.add_zero, Nat.mul_zero, Nat.zero_mul, e_mw_isSmall, e_mw_isDigit, e_mw_isDigit0, e_mw_isGreat, e_xs_isSmall, e_xs_isFigure, e_xs_isGreat, e_mw_isLetter, e_xs_isLetter, e_isBlank, e_xs_isBlank, e_isFrom, e_isIn]
              exact ih2
            · rw [cI_f c]
              refine ⟨fun _ => ?_, fun z => absurd rfl z⟩
              simp (disch := omega) only [forall_eq, forall_eq', exists_eq_left, exists_eq_left', true_and, and_true, true_implies, false_implies, not_true_eq_false, not_false_eq_true, Prod.mk.injEq, Option.some.injEq, reduceCtorEq, and_self, implies_true, eq_self, Classical.not_not, and_false, false_and, ite_true, ite_false, reduceIte, bI_0, or_false, false_or, or_true, true_or, or_self, if_true, if_false, n_le_t, n_le_f, n_lt_t, n_lt_f, n_eq_t, n_eq_f, n_toInt, n_cl, n_vp, n_eqM, M_eqn, n_leM, n_ltM, M_len, M_ltn, M_add, n_sub, iM_toInt, x_lt_t, x_lt_f, x_le_t, x_le_f, lt_x_t, lt_x_f, le_x_t, le_x_f, x_eq_f, nI_add, pk_mul, bI_t, bI_f, Int32.toInt_toInt64, n_subI, x_add0, i_le_t, i_le_f, i_lt_t, i_lt_f, k_le_t, k_le_f, k_lt_t, k_lt_f, li_0, li_1, li_2, li_3, li_4, li_5, li_6, li_7, li_8, li_9, li_10, li_11, li_12, li_16, li_20, li_24, li_25, li_26, li_30, li_31, li_32, li_40, li_48, li_49, li_57, li_59, li_60, li_63, li_64, li_65, li_90, li_96, li_97, li_106, li_122, li_255, li_300, li_600, li_800, li_900, li_1850, li_2000, li_2010, li_2040, li_2801, li_3300, li_4161, li_9999, li_10163, li_16500, li_16800, li_17100, li_18350, li_18510, li_18540, li_65536, li_100000, li_999999, li_1000000, li_2147483647, im_1, im_8, ll_0, ll_1, ll_2, ll_3, ll_4, ll_6, ll_16, ll_20, ll_40, ll_63, ll_800, ll_9999, jm_same, jm_ob, jm_ok, jm_il, jm_li, jm_lsame, jm_lob, jm_lok, Nat.reduceAdd, Nat.reduceMul, Nat.zero_add, Nat.add_zero, Nat.mul_zero, Nat.zero_mul, e_mw_isSmall, e_mw_isDigit, e_mw_isDigit0, e_mw_isGreat, e_xs_isSmall, e_xs_isFigure, e_xs_isGreat, e_mw_isLetter, e_xs_isLetter, e_isBlank, e_xs_isBlank, e_isFrom, e_isIn]
              exact ih2
  exact ⟨_, key (many + 1) 0 0 0 _ v0 (by omega) (by omega) (fun _ => h0) (Nat.le_refl _) (by omega) (fun k hk => by omega) hv0 hP⟩
end XCC
