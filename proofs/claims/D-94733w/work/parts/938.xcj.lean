/-! PLAIN LAW: press: a rule, the reference -/
set_option linter.unusedVariables false
section PRE
variable {m v w : MS} {b : Nat → Int32} {n : Nat} {h : Nat → Int32} {t : TK}
/-- the reference on its way -/
def PRm (m : MS) (b : Nat → Int32) (n : Nat) (h : Nat → Int32) (t : TK) (v : MS) : Prop :=
  QM m v ∧ TXm b n v ∧ TKm v t ∧ jm_i v 0 17 = nI 0 ∧ ∀ k, k < 3300 → jm_i v 1 (13200 + k) = h k
/-- the reference, when something is wrong -/
def FLm (m : MS) (e : Nat × Nat) (v : MS) : Prop :=
  (∀ b k, ¬ scr b k → ¬ (b = 0 ∧ k = 16) → jm_i v b k = jm_i m b k) ∧ (∀ b k, ¬ scr b k → jm_l v b k = jm_l m b k) ∧ jm_i v 0 17 = nI e.1 ∧ jm_i v 0 16 = nI e.2 ∧ 1 ≤ e.1 ∧ e.1 ≤ 9
theorem FRt.qm (h : FRt v w) : QM v w := fun b k q => ⟨h.1 b k (fun z => q (by unfold scr; omega)), h.2 b k⟩
theorem PRm.wr {k : Nat} {x : Int32} (hP : PRm m b n h t v) (hk : k < 3300) : PRm m b n (up h k x) t (jm_s v 1 (13200 + k) x) := by
  obtain ⟨h1, ⟨h2, h3, h4⟩, ⟨t1, t2, t3, t4, t5⟩, h6, h7⟩ := hP
  refine ⟨h1.s (by unfold scr; omega), ⟨by rw [jm_ob (by omega)]; exact h2, fun j hj => by rw [jm_ob (by omega)]; exact h3 j hj, h4⟩, ⟨by rw [jm_ob (by omega)]; exact t1, by rw [jm_ob (by omega)]; exact t2, by rw [jm_ob (by omega)]; exact t3, fun z => by rw [jm_ob (by omega)]; exact t4 z, fun z => by rw [jm_ob (by omega)]; exact t5 z⟩, by rw [jm_ob (by omega)]; exact h6, fun j hj => ?_⟩
  by_cases z : j = k
  · subst z; rw [up_s]; exact jm_same
  · rw [up_n z, jm_ok (by omega)]; exact h7 j hj
theorem PRm.cg {h2 : Nat → Int32} (hP : PRm m b n h t v) (he : ∀ k, k < 3300 → h2 k = h k) : PRm m b n h2 t v := ⟨hP.1, hP.2.1, hP.2.2.1, hP.2.2.2.1, fun k hk => by rw [he k hk]; exact hP.2.2.2.2 k hk⟩
theorem PRm.ahead {P : MS → Prop} (hP : PRm m b n h t v) (hw : TKw b n t) (hQ : ∀ w, PRm m b n h (nxT b n t) w → jm_i w 0 19 = jm_i v 0 19 → P w) : mw_ahead v P := by
  obtain ⟨h1, h2, h5, h6, h7⟩ := hP
  refine m_ahead h2 hw.2.1 h5.2.2.1 (fun w hf hk => hQ w ⟨h1.trans hf.qm, h2.fr hf, hk, by rw [hf.1 _ _ (by omega)]; exact h6, fun k hk => by rw [hf.1 _ _ (by omega)]; exact h7 k hk⟩ (hf.1 _ _ (by omega)))
theorem mkK_1 {k : Nat} (hk : k ≤ 4) : nI (mkK k) = nI 1 ↔ k = 4 := by
  have : mkK k < 100 := by unfold mkK; split <;> (try split) <;> omega
  rw [nI_eq (by omega) (by omega)]
  unfold mkK
  split <;> (try split) <;> omega
theorem mkK_e {k j : Nat} (hk : k ≤ 4) (hj : 1 ≤ j) (hj2 : j ≤ 3) : nI (mkK k) = nI (j + 1) ↔ k = j := by
  have : mkK k < 100 := by unfold mkK; split <;> (try split) <;> omega
  rw [nI_eq (by omega) (by omega)]
  unfold mkK
  split <;> (try split) <;> omega
theorem mkK_0 {k : Nat} (hk : k ≤ 4) : nI (mkK k) = nI 0 ↔ k = 0 := by
  have : mkK k < 100 := by unfold mkK; split <;> (try split) <;> omega
  rw [nI_eq (by omega) (by omega)]
  unfold mkK
  split <;> (try split) <;> omega
theorem m_fails {k : Nat} {P : Int32 → MS → Prop} (hP : PRm m b n h t v) (hw : TKw b n t) (hk : 1 ≤ k ∧ k ≤ 9) (hQ : ∀ w, FLm m (flt t k) w → P (nI 0) w) : mw_fails (nI k) v P := by
  obtain ⟨h1, h2, ⟨t1, t2, _⟩, h6, h7⟩ := hP
  have fin : ∀ q, q = (flt t k).1 → P (nI 0) (jm_s (jm_s v 0 17 (nI q)) 0 16 (nI (tkf t))) := fun q hq => by
    refine hQ _ ⟨fun b j hs h16 => ?_, fun b j hs => (h1 b j hs).2, by rw [jm_ok (by omega), jm_same, hq], jm_same, ?_, ?_⟩
    · have q1 : ¬ (b = 0 ∧ j = 17) := fun z => hs (by unfold scr; omega)
      rw [← (h1 b j hs).1]
      simp only [jm_i, jm_s, if_neg h16, if_neg q1]
    · unfold flt; show 1 ≤ (if tkk t = 4 then 1 else k); split <;> omega
    · unfold flt; show (if tkk t = 4 then 1 else k) ≤ 9; split <;> omega
  unfold mw_fails
  rw [h6, t1, li_1]
  refine ⟨fun z => absurd rfl z, fun _ => ⟨fun c u1 e1 u2 e2 => ?_, fun c u1 e1 u2 e2 => ?_⟩⟩
  · subst e1
    rw [jm_ok (by omega), t2] at e2
    subst e2
    refine fin k ?_
    unfold flt
    show k = if tkk t = 4 then 1 else k
    rw [if_neg (fun z => c ((mkK_1 hw.2.2.2.1).mpr z))]
  · subst e1
    rw [jm_ok (by omega), t2] at e2
    subst e2
    refine fin 1 ?_
    unfold flt
    show 1 = if tkk t = 4 then 1 else k
    rw [if_pos ((mkK_1 hw.2.2.2.1).mp c)]
theorem m_isSign {P : Int32 → MS → Prop} (hP : PRm m b n h t v) (hw : TKw b n t) (hQ : P (cI (tkk t = 3) (nI 1) (nI 0)) v) : mw_isSign (59 : Int32) v P := by
  obtain ⟨h1, h2, ⟨t1, t2, t3, t4, t5⟩, h6, h7⟩ := hP
  have e := mkK_e (k := tkk t) (j := 3) hw.2.2.2.1 (by omega) (by omega)
  unfold mw_isSign
  rw [t1, li_4]
  by_cases c : tkk t = 3
  · rw [cI_t c] at hQ
    rw [t5 c]
    exact ⟨fun z => absurd (e.mpr c) z, fun _ => ⟨fun z => absurd rfl z, fun _ => hQ⟩⟩
  · rw [cI_f c] at hQ
    exact ⟨fun _ => hQ, fun z => absurd (e.mp z) c⟩
theorem m_wantSign {P : Int32 → MS → Prop} (hP : PRm m b n h t v) (hw : TKw b n t) (h1 : tkk t = 3 → ∀ w, PRm m b n h (nxT b n t) w → jm_i w 0 19 = jm_i v 0 19 → P (nI 1) w) (h0 : tkk t ≠ 3 → ∀ w, FLm m (flt t 2) w → P (nI 0) w) : mw_wantSign (59 : Int32) v P := by
  unfold mw_wantSign
  refine m_isSign hP hw ?_
  by_cases c : tkk t = 3
  · rw [cI_t c]
    exact ⟨fun _ => hP.ahead hw (h1 c), fun z => absurd z (by decide)⟩
  · rw [cI_f c]
    exact ⟨fun z => absurd rfl z, fun _ => m_fails (k := 2) hP hw (by omega) (h0 c)⟩
theorem m_wantWord {i j : Nat} {P : Int32 → MS → Prop} (hP : PRm m b n h t v) (hw : TKw b n t) (hj : j < 11) (hi : kwI j = i) (h1 : wdP b t i → ∀ w, PRm m b n h (nxT b n t) w → jm_i w 0 19 = jm_i v 0 19 → P (nI 1) w) (h0 : ¬ wdP b t i → ∀ w, FLm m (flt t 2) w → P (nI 0) w) : mw_wantWord 0 (nI j) v P := by
  subst hi
  unfold mw_wantWord
  refine m_inWords hP.2.1 hP.2.2.1 hw ?_
  by_cases c : wdP b t (kwI j)
  · rw [wdI_t hj c]
    exact ⟨fun _ => hP.ahead hw (h1 c), fun z => absurd rfl z⟩
  · refine ⟨fun z => ?_, fun _ => m_fails (k := 2) hP hw (by omega) (h0 c)⟩
    cases e : wdI b t with
    | none =>
      rw [e] at z
      have z : iM = nI j := z
      rw [M_eqn (by omega)] at z
      exact z.elim
    | some q =>
      rw [e] at z
      have hq := (wdI_lt e).1
      have z : nI q = nI j := z
      have e2 := (nI_eq (by omega) (by omega)).mp z
      subst e2
      exact absurd ((wdI_iff hj).mp e) c
theorem m_likeRule {o r : Nat} {P : Int32 → MS → Prop} (hs : ∀ k, k < 3300 → jm_i v 1 (13200 + k) = h k) (ho : o < 24) (hr : r < 24) (hl : h (12 + 12 * o) = nI (hN h (12 + 12 * o)) ∧ hN h (12 + 12 * o) ≤ 6) (hP : P (cI (lkP h o r) (nI 1) (nI 0)) v) : mw_likeRule (nI (13200 + (12 + 12 * o))) (nI (13200 + (12 + 12 * r))) v P := by
  obtain ⟨l1, l2⟩ := hl
  have z1 := hs (12 + 12 * o) (by omega)
  have z2 := hs (12 + 12 * r) (by omega)
  have z3 := hs (12 + 12 * o + 11) (by omega)
  have z4 := hs (12 + 12 * r + 11) (by omega)
  have n0 : ∀ f k, (lkP h o r → False) → mw_likeRule_L45 P (nI (13200 + (12 + 12 * o))) (nI (13200 + (12 + 12 * r))) (f + 1) (nI 0) k v := fun f k hno => by
    rw [cI_f hno] at hP
    unfold mw_likeRule_L45 mw_likeRule_L45_S
    exact ⟨vp_in_nI (by omega) (by omega), fun _ => ⟨jj_z0, hP⟩, fun _ => ⟨fun _ => ⟨jj_z0, hP⟩, fun z => absurd rfl z⟩⟩
  have key : h (12 + 12 * o) = h (12 + 12 * r) → h (12 + 12 * o + 11) = h (12 + 12 * r + 11) → ∀ g k, k + g = hN h (12 + 12 * o) → (∀ j, j < k → h (12 + 12 * o + 1 + j) = h (12 + 12 * r + 1 + j)) → mw_likeRule_L45 P (nI (13200 + (12 + 12 * o))) (nI (13200 + (12 + 12 * r))) (g + 1) (nI 1) (nI k) v := by
    intro c1 c2 g
    induction g with
    | zero =>
      intro k hk hj
      have ek : k = hN h (12 + 12 * o) := by omega
      rw [cI_t ⟨c1, c2, by rw [← ek]; exact hj⟩] at hP
      unfold mw_likeRule_L45 mw_likeRule_L45_S
      rw [n_cl (by omega), z1, l1, ← ek]
      exact ⟨vp_in_nI (by omega) (by omega), fun _ => ⟨jj_z1, hP⟩, fun z => absurd (Int32.le_refl _) z⟩
    | succ g ih =>
      intro k hk hj
      have z5 := hs (12 + 12 * o + 1 + k) (by omega)
      have z6 := hs (12 + 12 * r + 1 + k) (by omega)
      unfold mw_likeRule_L45 mw_likeRule_L45_S
      rw [n_cl (by omega), z1, l1]
      refine ⟨vp_in_nI (by omega) (by omega), fun z => absurd z (by rw [n_le_f (by omega) (by omega)]; exact id), fun _ => ⟨fun z => absurd z (by decide), fun _ => ?_⟩⟩
      rw [li_1, nI_add, nI_add, nI_add, nI_add, n_cl (by omega), n_cl (by omega), show 13200 + (12 + 12 * o) + 1 + k = 13200 + (12 + 12 * o + 1 + k) by omega, show 13200 + (12 + 12 * r) + 1 + k = 13200 + (12 + 12 * r + 1 + k) by omega, z5, z6]
      refine ⟨vp_in_nI (by omega) (by omega), vp_in_nI (by omega) (by omega), fun c v e => ?_, fun c v e => ?_⟩
      · subst e
        exact n0 g _ (fun z => c (z.2.2 k (by omega)))
      · rw [nI_add] at e
        subst e
        exact ih (k + 1) (by omega) (fun j hj2 => by
          by_cases y : j = k
          · subst y; exact c
          · exact hj j (by omega))
  unfold mw_likeRule
  rw [n_cl (by omega), n_cl (by omega), z1, z2]
  refine ⟨vp_in_nI (by omega) (by omega), vp_in_nI (by omega) (by omega), fun c => ⟨_, n0 0 _ (fun z => c z.1)⟩, fun c1 => ?_⟩
  rw [li_11, nI_add, nI_add, n_cl (by omega), n_cl (by omega), show 13200 + (12 + 12 * o) + 11 = 13200 + (12 + 12 * o + 11) by omega, show 13200 + (12 + 12 * r) + 11 = 13200 + (12 + 12 * r + 11) by omega, z3, z4]
  refine ⟨vp_in_nI (by omega) (by omega), vp_in_nI (by omega) (by omega), fun c => ⟨_, n0 0 _ (fun z => c z.2.1)⟩, fun c2 => ⟨_, key c1 c2 _ 0 (Nat.zero_add _) (fun j hj => by omega)⟩⟩
end PRE
