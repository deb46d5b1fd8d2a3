/-! PLAIN LAW: press: a rule, the reference, whole -/
set_option linter.unusedVariables false
theorem li_13200 : (13200 : Int32) = nI 13200 := rfl
theorem li_13204 : (13204 : Int32) = nI 13204 := rfl
theorem li_13205 : (13205 : Int32) = nI 13205 := rfl
section PRF
variable {m v w : MS} {b : Nat → Int32} {n : Nat} {h : Nat → Int32} {t : TK}
/-- the reference's outcome of a part -/
def OCm (m : MS) (b : Nat → Int32) (n : Nat) (td : Int32) (P : Int32 → MS → Prop) : RO → Prop
  | Sum.inl e => ∀ w, FLm m e w → P (nI 0) w
  | Sum.inr (h, t) => ∀ w, PRm m b n h t w → jm_i w 0 19 = td → TKw b n t → TBI h → P (nI 1) w
noncomputable def sgR (b : Nat → Int32) (n : Nat) : RO → RO
  | Sum.inl e => Sum.inl e
  | Sum.inr (h, t) => cI (tkk t = 3) (Sum.inr (h, nxT b n t)) (Sum.inl (flt t 2))
theorem m_r338 {td : Int32} {r L k c : Nat} {P : Int32 → MS → Prop} (hP : PRm m b n (up h (12 + 12 * r + 11) (nI c)) t v) (hw : TKw b n t) (h3 : tkk t = 3) (hR : RLk h r L k) (hk : 1 ≤ k) (hc : c ≤ 4) (h19 : jm_i v 0 19 = td)
    (hO : OCm m b n td P (cI (∃ o, o < r ∧ lkP (up h (12 + 12 * r + 11) (nI c)) o r) (Sum.inl (3, tkf t)) (Sum.inr (up (up h (12 + 12 * r + 11) (nI c)) 0 (nI (r + 1)), nxT b n t)))) : ∃ q, mw_aRule_L338 P (nI r) (nI (13200 + (12 + 12 * r))) q (nI 0) v := by
  have hr := hR.2.2.1
  have hl : ∀ o, o < r → up h (12 + 12 * r + 11) (nI c) (12 + 12 * o) = nI (hN (up h (12 + 12 * r + 11) (nI c)) (12 + 12 * o)) ∧ hN (up h (12 + 12 * r + 11) (nI c)) (12 + 12 * o) ≤ 6 := fun o ho => by
    have := (hR.1.1.2.2.2.2.2.2 o (by rw [hR.2.1]; exact ho)).1
    rw [hN_o (by omega), up_n (by omega)]
    exact ⟨this.1, this.2.2⟩
  have hfin := hR.fin hk hc
  have h0 : h 0 = nI r := by rw [← hR.2.1]; exact hR.1.1.1.1
  have key : ∀ d o, o + d = r → (∀ o2, o2 < o → ¬ lkP (up h (12 + 12 * r + 11) (nI c)) o2 r) → mw_aRule_L338 P (nI r) (nI (13200 + (12 + 12 * r))) (d + 1) (nI o) v := by
    intro d
    induction d with
    | zero =>
      intro o ho hno
      have eo : o = r := by omega
      rw [cI_f (fun z => by obtain ⟨o2, z1, z2⟩ := z; exact hno o2 (by omega) z2)] at hO
      unfold mw_aRule_L338 mw_aRule_L338_S
      refine ⟨fun _ u383 e => ?_, fun z => absurd (by rw [eo]; exact Int32.le_refl _) z⟩
      have z0 := hP.2.2.2.2 0 (by omega)
      rw [up_n (by omega), h0] at z0
      have z0 : jm_i v 1 13200 = nI r := z0
      rw [z0, li_1, nI_add] at e
      subst e
      have hP2 := hP.wr (k := 0) (x := nI (r + 1)) (by omega)
      exact m_wantSign hP2 hw (fun _ w hw2 h192 => hO w hw2 (by rw [h192, jm_ob (by omega)]; exact h19) (nxT_w hw) hfin) (fun z => absurd h3 z)
    | succ d ih =>
      intro o ho hno
      unfold mw_aRule_L338 mw_aRule_L338_S
      refine ⟨fun z => absurd z (by rw [n_le_f (by omega) (by omega)]; exact id), fun _ => ?_⟩
      unfold mw_ruleAt
      have e : (13200 : Int32) + (12 : Int32) + (12 : Int32) * nI o = nI (13200 + (12 + 12 * o)) := by
        rw [li_13200, li_12, pk_mul, nI_add, nI_add, Nat.add_assoc]
      rw [e]
      refine m_likeRule hP.2.2.2.2 (by omega) hr (hl o (by omega)) ?_
      by_cases cl : lkP (up h (12 + 12 * r + 11) (nI c)) o r
      · rw [cI_t ⟨o, by omega, cl⟩] at hO
        rw [cI_t cl]
        refine ⟨fun z => absurd z (by decide), fun _ => m_fails (k := 3) hP hw (by omega) (fun w hf => hO w ?_)⟩
        have : flt t 3 = (3, tkf t) := by unfold flt; rw [if_neg (by omega)]
        rw [this] at hf
        exact hf
      · rw [cI_f cl]
        refine ⟨fun _ v1 e1 => ?_, fun z => absurd rfl z⟩
        rw [li_1, nI_add] at e1
        subst e1
        exact ih (o + 1) (by omega) (fun o2 h2 => by
          by_cases z : o2 = o
          · subst z; exact cl
          · exact hno o2 (by omega))
  exact ⟨_, key r 0 (by omega) (fun o2 h2 => by omega)⟩
theorem m_r320 {td : Int32} {r L k c : Nat} {P : Int32 → MS → Prop} (hP : PRm m b n (up h (12 + 12 * r + 11) (nI c)) t v) (hw : TKw b n t) (hR : RLk h r L k) (hk : 1 ≤ k) (hc : c ≤ 4) (h19 : jm_i v 0 19 = td)
    (hO : OCm m b n td P (sgR b n (cI (tkk t = 3 ∧ ∃ o, o < r ∧ lkP (up h (12 + 12 * r + 11) (nI c)) o r) (Sum.inl (3, tkf t)) (Sum.inr (up (up h (12 + 12 * r + 11) (nI c)) 0 (nI (r + 1)), t))))) : mw_aRule_B320 P (nI r) (nI (13200 + (12 + 12 * r))) v := by
  unfold mw_aRule_B320
  refine m_isSign hP hw ?_
  by_cases c3 : tkk t = 3
  · rw [cI_t c3]
    refine ⟨fun _ => m_r338 hP hw c3 hR hk hc h19 ?_, fun z => absurd z (by decide)⟩
    by_cases cl : ∃ o, o < r ∧ lkP (up h (12 + 12 * r + 11) (nI c)) o r
    · rw [cI_t ⟨c3, cl⟩] at hO
      rw [cI_t cl]
      exact hO
    · rw [cI_f (fun z => cl z.2), sgR, cI_t c3] at hO
      rw [cI_f cl]
      exact hO
  · rw [cI_f c3]
    rw [cI_f (fun z => c3 z.1), sgR, cI_f c3] at hO
    exact ⟨fun z => absurd rfl z, fun _ => m_fails (k := 2) hP hw (by omega) hO⟩
theorem m_r303 {td : Int32} {r L k : Nat} {P : Int32 → MS → Prop} (hP : PRm m b n h t v) (hw : TKw b n t) (hR : RLk h r L k) (hk : 1 ≤ k) (h19 : jm_i v 0 19 = td)
    (hO : OCm m b n td P (sgR b n (rlE b n r h t))) : mw_aRule_B303 P (nI r) (nI (13200 + (12 + 12 * r))) (nI (cdN b t)) (nI (13200 + (12 + 12 * r)) + (11 : Int32)) v := by
  have hr := hR.2.2.1
  have hc := cdN_le (b := b) (t := t)
  have hP2 := hP.wr (k := 12 + 12 * r + 11) (x := nI (cdN b t)) (by omega)
  unfold mw_aRule_B303
  rw [li_11, nI_add, show 13200 + (12 + 12 * r) + 11 = 13200 + (12 + 12 * r + 11) by omega]
  refine ⟨vp_in_nI (by omega) (by omega), fun u303 e => ?_⟩
  rw [n_cl (by omega)] at e
  subst e
  refine ⟨vp_in_nI (by omega) (by omega), ?_⟩
  rw [n_cl (by omega), jm_same]
  unfold rlE at hO
  by_cases c0 : cdN b t = 0
  · rw [cI_t c0] at hO
    refine ⟨fun _ => m_r320 hP2 hw hR hk hc (by rw [jm_ob (by omega)]; exact h19) hO, fun z => absurd (by rw [c0]; exact Int32.le_refl _) z⟩
  · rw [cI_f c0] at hO
    refine ⟨fun z => absurd z (by rw [li_0, n_le_f (by omega) (by omega)]; exact id), fun _ => hP2.ahead hw (fun w hw2 h192 => m_r320 hw2 (nxT_w hw) hR hk hc (by rw [h192, jm_ob (by omega)]; exact h19) hO)⟩
theorem m_r171 {td : Int32} {r L : Nat} {P : Int32 → MS → Prop} : ∀ f k h t v, 4 ≤ f + k → PRm m b n h t v → TKw b n t → RLk h r L k → (1 ≤ k ∨ tkk t = 2) → jm_i v 0 19 = td → OCm m b n td P (sgR b n (rlM b n r (clP b n r (f + 1) h t k))) → mw_aRule_L171 P (nI r) (nI (13200 + (12 + 12 * r))) (f + 1) v := by
  have body : ∀ f k h t v (R : MS → Prop), (k < 3 → ∀ w, PRm m b n (up (up h (12 + 12 * r + 7 + 1 + k) (nI (tkv t))) (12 + 12 * r + 7) (nI (k + 1))) (nxT b n t) w → jm_i w 0 19 = td → 1 ≤ tkv t → tkv t ≤ 63 → OCm m b n td P (sgR b n (rlM b n r (clP b n r f (up (up h (12 + 12 * r + 7 + 1 + k) (nI (tkv t))) (12 + 12 * r + 7) (nI (k + 1))) (nxT b n t) (k + 1)))) → R w) → PRm m b n h t v → TKw b n t → RLk h r L k → (1 ≤ k ∨ tkk t = 2) → jm_i v 0 19 = td → OCm m b n td P (sgR b n (rlM b n r (clP b n r (f + 1) h t k))) → mw_aRule_L171_S P (nI r) (nI (13200 + (12 + 12 * r))) R v := by
    intro f k h t v R hR2 hP hw hR hk h19 hO
    have hr := hR.2.2.1
    have hk3 : k ≤ 3 := hR.2.2.2.2.2.2.2.2.1
    have e2 := mkK_e (k := tkk t) (j := 2) hw.2.2.2.1 (by omega) (by omega)
    have t1 := hP.2.2.1.1
    rw [clP] at hO
    unfold mw_aRule_L171_S
    rw [t1, li_3]
    by_cases c2 : tkk t = 2
    · rw [cI_t c2] at hO
      have hv := hw.2.2.2.2.2.1 c2
      have f4 : flt t 4 = (4, tkf t) := by unfold flt; rw [if_neg (by omega)]
      have f5 : flt t 5 = (5, tkf t) := by unfold flt; rw [if_neg (by omega)]
      refine ⟨fun z => absurd (e2.mpr c2) z, fun _ => ?_⟩
      rw [hP.2.2.1.2.2.2.1 c2, li_1, li_63]
      by_cases clo : tkv t < 1
      · rw [cI_f (by omega)] at hO
        exact ⟨fun _ => m_fails (k := 4) hP hw (by omega) (by rw [f4]; exact hO), fun z => absurd (by rw [n_lt_t clo (by omega)]; trivial) z⟩
      · refine ⟨fun z => absurd z (by rw [n_lt_f (by omega) (by omega)]; exact id), fun _ => ?_⟩
        by_cases chi : tkv t ≤ 63
        · rw [cI_t (by omega)] at hO
          refine ⟨fun _ => ?_, fun z => absurd (by rw [n_le_t chi (by omega)]; trivial) z⟩
          have z7 := hP.2.2.2.2 (12 + 12 * r + 7) (by omega)
          rw [hR.2.2.2.2.2.2.2.1] at z7
          rw [li_7, nI_add, show 13200 + (12 + 12 * r) + 7 = 13200 + (12 + 12 * r + 7) by omega, n_cl (by omega), z7]
          refine ⟨vp_in_nI (by omega) (by omega), fun c3 => ?_, fun c3 => ?_⟩
          · have c3 : ¬ k = 3 := fun z => c3 (by rw [z])
            rw [cI_f c3] at hO
            rw [nI_add, nI_add]
            refine ⟨vp_in_nI (by omega) (by omega), vp_in_nI (by omega) (by omega), fun u245 e1 v254 e3 => ?_⟩
            rw [n_cl (by omega), show 13200 + (12 + 12 * r + 7) + 1 + k = 13200 + (12 + 12 * r + 7 + 1 + k) by omega] at e1
            subst e1 e3
            refine ⟨vp_in_nI (by omega) (by omega), vp_in_nI (by omega) (by omega), fun u258 e1 => ?_⟩
            rw [n_cl (by omega), jm_ok (by omega), z7, nI_add] at e1
            subst e1
            have hP2 := (hP.wr (k := 12 + 12 * r + 7 + 1 + k) (x := nI (tkv t)) (by omega)).wr (k := 12 + 12 * r + 7) (x := nI (k + 1)) (by omega)
            exact hP2.ahead hw (fun w hw2 h192 => hR2 (by omega) w hw2 (by rw [h192, jm_ob (by omega), jm_ob (by omega)]; exact h19) (by omega) chi hO)
          · have c3 : k = 3 := (nI_eq (by omega) (by omega)).mp c3
            rw [cI_t c3] at hO
            exact m_fails (k := 5) hP hw (by omega) (by rw [f5]; exact hO)
        · rw [cI_f (by omega)] at hO
          exact ⟨fun z => absurd z (by rw [n_le_f (by omega) (by omega)]; exact id), fun _ => m_fails (k := 4) hP hw (by omega) (by rw [f4]; exact hO)⟩
    · rw [cI_f c2] at hO
      have hk1 : 1 ≤ k := by omega
      refine ⟨fun _ => m_inWords hP.2.1 hP.2.2.1 hw ?_, fun z => absurd (e2.mp z) c2⟩
      have f303 := m_r303 (td := td) (P := P) hP hw hR hk1 h19 hO
      cases e : wdI b t with
      | none =>
        rw [cdN_n e] at f303
        exact ⟨fun _ => f303, fun z => absurd (by decide) z⟩
      | some q =>
        have hq := (wdI_lt e).1
        rw [cdN_s e] at f303
        show (nI q < (7 : Int32) → _) ∧ (¬ nI q < (7 : Int32) → _)
        rw [li_7]
        by_cases c7 : q < 7
        · rw [if_neg (by omega)] at f303
          exact ⟨fun _ => f303, fun z => absurd (by rw [n_lt_t c7 (by omega)]; trivial) z⟩
        · rw [if_pos (by omega)] at f303
          refine ⟨fun z => absurd z (by rw [n_lt_f (by omega) (by omega)]; exact id), fun _ => ⟨fun z => absurd z (by rw [li_10]; show ¬ nI 10 < nI q; rw [n_lt_f (by omega) (by omega)]; exact id), fun _ => ?_⟩⟩
          show mw_aRule_B303 P _ _ ((nI q - nI 7) + (1 : Int32)) _ v
          rw [n_sub (by omega), li_1, nI_add, show q - 7 + 1 = q - 6 by omega]
          exact f303
  intro f
  induction f with
  | zero =>
    intro k h t v hf hP hw hR hk h19 hO
    rw [mw_aRule_L171]
    exact body 0 k h t v _ (fun z => by omega) hP hw hR hk h19 hO
  | succ f ih =>
    intro k h t v hf hP hw hR hk h19 hO
    rw [mw_aRule_L171]
    exact body (f + 1) k h t v _ (fun hk3 w hw2 h192 hv1 hv2 hO2 => ih (k + 1) _ _ w (by omega) hw2 (nxT_w hw) (hR.s hk3 hv1 hv2) (Or.inl (by omega)) h192 hO2) hP hw hR hk h19 hO
set_option maxHeartbeats 4000000 in
theorem m_aRule {td : Int32} {P : Int32 → MS → Prop} (hP : PRm m b n h t v) (hw : TKw b n t) (hk : tkk t = 1) (hB : TBI h) (h19 : jm_i v 0 19 = td) (hO : OCm m b n td P (sgR b n (rlX b n h t))) : mw_aRule v P := by
  have z0 : jm_i v 1 13200 = h 0 := hP.2.2.2.2 0 (by omega)
  have g0 := hB.1.1.1
  have g0l := hB.1.1.2
  generalize hr : hN h 0 = r at g0 g0l
  have f2 : ∀ {t : TK} {v : MS} {h : Nat → Int32} {X : RO}, PRm m b n h t v → TKw b n t → OCm m b n td P (sgR b n (Sum.inl (flt t 2))) → mw_fails (2 : Int32) v P := fun hP hw hO => m_fails (k := 2) hP hw (by omega) hO
  unfold rlX at hO
  rw [hr] at hO
  unfold mw_aRule
  intro v8 e8
  rw [z0, g0] at e8
  subst e8
  unfold mw_ruleAt
  have er : (13200 : Int32) + (12 : Int32) + (12 : Int32) * nI r = nI (13200 + (12 + 12 * r)) := by
    rw [li_13200, li_12, pk_mul, nI_add, nI_add, Nat.add_assoc]
  rw [er]
  by_cases c24 : r = 24
  · rw [cI_t c24] at hO
    refine ⟨fun z => absurd (by rw [c24]; rfl) z, fun _ => m_fails (k := 6) hP hw (by omega) (fun w hf => hO w ?_)⟩
    have : flt t 6 = (6, tkf t) := by unfold flt; rw [if_neg (by omega)]
    rw [this] at hf
    exact hf
  rw [cI_f c24] at hO
  refine ⟨fun _ => hP.ahead hw (fun v1 hP1 h1 => ?_), fun z => absurd ((nI_eq (by omega) (by omega)).mp (show nI r = nI 24 from z)) c24⟩
  have hw1 := nxT_w hw
  rw [h19] at h1
  generalize nxT b n t = t1 at hO hP1 hw1
  have e1 := mkK_e (k := tkk t1) (j := 1) hw1.2.2.2.1 (by omega) (by omega)
  rw [hP1.2.2.1.1, hP1.2.2.1.2.1, hP1.2.2.1.2.2.1, li_2, n_sub hw1.1, li_6]
  have hn := hP.2.1.2.2
  have hle := hw1.2.1
  by_cases c1 : tkk t1 = 1
  rotate_left
  · rw [cI_f (fun z => c1 z.1)] at hO
    exact ⟨fun _ => f2 (X := Sum.inl (0, 0)) hP1 hw1 hO, fun z => absurd (e1.mp z) c1⟩
  refine ⟨fun z => absurd (e1.mpr c1) z, fun _ => ?_⟩
  by_cases c6 : tke t1 - tkf t1 ≤ 6
  rotate_left
  · rw [cI_f (fun z => c6 z.2)] at hO
    exact ⟨fun z => absurd z (by rw [n_le_f (by omega) (by omega)]; exact id), fun _ => f2 (X := Sum.inl (0, 0)) hP1 hw1 hO⟩
  rw [cI_t ⟨c1, c6⟩] at hO
  refine ⟨fun _ => ⟨vp_in_nI (by omega) (by omega), fun u76 e76 => ?_⟩, fun z => absurd (by rw [n_le_t c6 (by omega)]; trivial) z⟩
  rw [n_cl (by omega)] at e76
  have e76 : u76 = jm_s v1 1 (13200 + (12 + 12 * r)) (nI (tke t1 - tkf t1)) := e76
  subst e76
  have hlen := hw1.2.2.1 (by omega)
  have hRL := hB.rl (b := b) (n := n) (t := t1) hr (by omega) hw1 c1 c6
  have e0 : ∀ k, k < 12 + 12 * r ∨ 12 + 12 * r + 7 ≤ k → rlL h b t1 r k = h k := fun k hk => by unfold rlL; rw [if_neg (by omega), if_neg (by omega)]
  have fin : ∀ v2, PRm m b n (rlL h b t1 r) t1 v2 → jm_i v2 0 19 = td → mw_ahead v2 (fun u131 =>
      mw_wantWord 0 (6 : Int32) u131 (fun r139 u139 =>
        (¬ r139 = 0 →
          ((jm_i u139 0 11) = (3 : Int32) →
            vp_in (nI (13200 + (12 + 12 * r)) + (7 : Int32)) 19800 ∧
            ∀ u170 : MS, u170 = jm_s u139 1 (nI (13200 + (12 + 12 * r)) + (7 : Int32)).toNatClampNeg (0 : Int32) →
            ∃ n, mw_aRule_L171 P (nI r) (nI (13200 + (12 + 12 * r))) n u170) ∧
          (¬ (jm_i u139 0 11) = (3 : Int32) →
            mw_fails (2 : Int32) u139 (fun r157 u157 =>
              P r157 u157))) ∧
        (r139 = 0 →
          P (0 : Int32) u139))) := fun v2 hP2 h2 => by
    refine hP2.ahead hw1 (fun v3 hP3 h3 => ?_)
    have hw3 := nxT_w hw1
    rw [h2] at h3
    generalize nxT b n t1 = t2 at hO hP3 hw3
    refine m_wantWord (i := 2) hP3 hw3 (j := 6) (by omega) rfl (fun cw v4 hP4 h4 => ?_) (fun cw v4 hf => ?_)
    · rw [cI_t cw] at hO
      have hw4 := nxT_w hw3
      rw [h3] at h4
      generalize nxT b n t2 = t3 at hO hP4 hw4
      have e3 := mkK_e (k := tkk t3) (j := 2) hw4.2.2.2.1 (by omega) (by omega)
      refine ⟨fun _ => ?_, fun z => absurd z (by decide)⟩
      rw [hP4.2.2.1.1, li_3]
      by_cases c3 : tkk t3 = 2
      · rw [cI_t c3] at hO
        refine ⟨fun _ => ?_, fun z => absurd (e3.mpr c3) z⟩
        rw [li_7, nI_add, n_cl (by omega), show 13200 + (12 + 12 * r) + 7 = 13200 + (12 + 12 * r + 7) by omega]
        refine ⟨vp_in_nI (by omega) (by omega), fun u170 e => ?_⟩
        subst e
        have hP5 := hP4.wr (k := 12 + 12 * r + 7) (x := nI 0) (by omega)
        exact ⟨5, m_r171 4 0 _ t3 _ (by omega) hP5 hw4 hRL (Or.inr c3) (by rw [jm_ob (by omega)]; exact h4) hO⟩
      · rw [cI_f c3] at hO
        exact ⟨fun z => absurd (e3.mp z) c3, fun _ => f2 (X := Sum.inl (0, 0)) hP4 hw4 hO⟩
    · rw [cI_f cw] at hO
      exact ⟨fun z => absurd rfl z, fun _ => hO v4 hf⟩
  have key : ∀ d i v2, i + d = 6 → PRm m b n (fun k => if k < 12 + 12 * r + 1 + i then rlL h b t1 r k else h k) t1 v2 → jm_i v2 0 19 = td → mw_aRule_L79 P (nI r) (nI (13200 + (12 + 12 * r))) (d + 1) (nI i) v2 := by
    intro d
    induction d with
    | zero =>
      intro i v2 hi hP2 h2
      have ei : i = 6 := by omega
      subst ei
      unfold mw_aRule_L79 mw_aRule_L79_S
      refine ⟨fun _ => fin v2 (hP2.cg (fun k hk => ?_)) h2, fun z => absurd (Int32.le_refl _) z⟩
      by_cases c : k < 12 + 12 * r + 1 + 6
      · rw [if_pos c]
      · rw [if_neg c, e0 k (by omega)]
    | succ d ih =>
      intro i v2 hi hP2 h2
      have zL : jm_i v2 1 (13200 + (12 + 12 * r)) = nI (tke t1 - tkf t1) := by
        rw [hP2.2.2.2.2 _ (by omega)]
        show (if 12 + 12 * r < 12 + 12 * r + 1 + i then rlL h b t1 r (12 + 12 * r) else h (12 + 12 * r)) = _
        rw [if_pos (by omega)]
        unfold rlL
        rw [if_pos rfl]
      have nxt : ∀ x, x = rlL h b t1 r (12 + 12 * r + 1 + i) → mw_aRule_L79 P (nI r) (nI (13200 + (12 + 12 * r))) (d + 1) (nI (i + 1)) (jm_s v2 1 (13200 + (12 + 12 * r + 1 + i)) x) := fun x hx => by
        subst hx
        refine ih (i + 1) _ (by omega) ((hP2.wr (k := 12 + 12 * r + 1 + i) (x := rlL h b t1 r (12 + 12 * r + 1 + i)) (by omega)).cg (fun k hk => ?_)) (by rw [jm_ob (by omega)]; exact h2)
        by_cases z : k = 12 + 12 * r + 1 + i
        · subst z
          rw [up_s, if_pos (by omega)]
        · rw [up_n z]
          by_cases c : k < 12 + 12 * r + 1 + i
          · rw [if_pos c, if_pos (by omega)]
          · rw [if_neg c, if_neg (by omega)]
      unfold mw_aRule_L79 mw_aRule_L79_S
      rw [n_cl (by omega), zL, li_6]
      refine ⟨fun z => absurd z (by rw [n_le_f (by omega) (by omega)]; exact id), fun _ => ⟨vp_in_nI (by omega) (by omega), fun cL => ?_, fun cL => ?_⟩⟩
      · have cL : ¬ i < tke t1 - tkf t1 := fun z => by rw [n_le_f z (by omega)] at cL; exact cL
        rw [li_1, nI_add, nI_add, show 13200 + (12 + 12 * r) + 1 + i = 13200 + (12 + 12 * r + 1 + i) by omega]
        refine ⟨vp_in_nI (by omega) (by omega), fun u123 e1 v1 e2 => ?_⟩
        rw [n_cl (by omega)] at e1
        rw [nI_add] at e2
        subst e1 e2
        refine nxt _ ?_
        unfold rlL
        rw [if_neg (by omega), if_pos (by omega), if_neg (by omega)]
        rfl
      · have cL : i < tke t1 - tkf t1 := by
          rcases Nat.lt_or_ge i (tke t1 - tkf t1) with z | z
          · exact z
          · exact absurd (by rw [n_le_t z (by omega)]; trivial) cL
        rw [hP2.2.2.1.2.1, nI_add]
        refine m_bt hP2.2.1 (by omega) ?_
        have hb := hw1.2.2.2.2.1 c1 (tkf t1 + i) (by omega) (by omega)
        obtain ⟨d1, d2⟩ := c_nI hb
        have hb2 := hb
        rw [d1] at hb2
        obtain ⟨d3, d4⟩ := hb2
        rw [n_toInt (by omega)] at d3 d4
        have ebv : byV b n (tkf t1 + i) = nI (b (tkf t1 + i)).toNatClampNeg := (byV_e hP2.2.1 d2).mpr ⟨by omega, d1⟩
        rw [li_1, nI_add, nI_add, show 13200 + (12 + 12 * r) + 1 + i = 13200 + (12 + 12 * r + 1 + i) by omega]
        refine ⟨vp_in_nI (by omega) (by omega), fun u123 e1 v1 e2 => ?_⟩
        rw [n_cl (by omega), ebv, li_97, n_sub (by omega), nI_add] at e1
        rw [nI_add] at e2
        subst e1 e2
        refine nxt _ ?_
        unfold rlL
        rw [if_neg (by omega), if_pos (by omega), if_pos (by omega), show 12 + 12 * r + 1 + i - (12 + 12 * r + 1) = i by omega]
        congr 1
        omega
  refine ⟨7, key 6 0 _ (by omega) ((hP1.wr (k := 12 + 12 * r) (x := nI (tke t1 - tkf t1)) (by omega)).cg (fun k hk => ?_)) (by rw [jm_ob (by omega)]; exact h1)⟩
  by_cases z : k = 12 + 12 * r
  · subst z
    rw [up_s, if_pos (by omega)]
    unfold rlL
    rw [if_pos rfl]
  · rw [up_n z]
    by_cases c : k < 12 + 12 * r + 1 + 0
    · rw [if_pos c, e0 k (by omega)]
    · rw [if_neg c]
end PRF
