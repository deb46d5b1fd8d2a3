/-! PLAIN LAW: press: the reference -/
set_option linter.unusedVariables false
section PRK
variable {m v w : MS} {b : Nat → Int32} {n : Nat} {h : Nat → Int32} {t : TK}
/-- the reference's outcome of a part that is whole -/
def OPm (m : MS) (b : Nat → Int32) (n : Nat) (P : Int32 → MS → Prop) : PO → Prop
  | Sum.inl e => ∀ w, FLm m e w → P (nI 0) w
  | Sum.inr (h, td, t) => ∀ w, PRm m b n h t w → jm_i w 0 19 = nI td → P (nI 1) w
theorem PRm.nu {td : Int32} (hP : PRm m b n h t v) : PRm m b n h t (jm_s v 0 19 td) := by
  obtain ⟨h1, ⟨h2, h3, h4⟩, ⟨t1, t2, t3, t4, t5⟩, h6, h7⟩ := hP
  exact ⟨h1.s (by unfold scr; omega), ⟨by rw [jm_ok (by omega)]; exact h2, fun j hj => by rw [jm_ob (by omega)]; exact h3 j hj, h4⟩, ⟨by rw [jm_ok (by omega)]; exact t1, by rw [jm_ok (by omega)]; exact t2, by rw [jm_ok (by omega)]; exact t3, fun z => by rw [jm_ok (by omega)]; exact t4 z, fun z => by rw [jm_ok (by omega)]; exact t5 z⟩, by rw [jm_ok (by omega)]; exact h6, fun k hk => by rw [jm_ob (by omega)]; exact h7 k hk⟩
theorem OPm.sg {td : Nat} {P : Int32 → MS → Prop} : ∀ {o : RO}, OPm m b n P (sgZ b n (rlT td o)) → OCm m b n (nI td) P (sgR b n o)
  | Sum.inl e, hO => hO
  | Sum.inr (h, t), hO => by
    have hO : OPm m b n P (cI (tkk t = 3) (Sum.inr (h, td, nxT b n t)) (Sum.inl (flt t 2))) := hO
    show OCm m b n (nI td) P (cI (tkk t = 3) (Sum.inr (h, nxT b n t)) (Sum.inl (flt t 2)))
    by_cases c : tkk t = 3
    · rw [cI_t c] at hO ⊢
      exact fun w hw h19 _ _ => hO w hw h19
    · rw [cI_f c] at hO ⊢
      exact hO
set_option maxHeartbeats 4000000 in
theorem m_number {w td : Nat} {x : Int32} {P : Int32 → MS → Prop} (hP : PRm m b n h t v) (hw : TKw b n t) (h1 : 1 ≤ w) (h5 : w ≤ 5) (hx : x = nI (13200 + w)) (h19 : jm_i v 0 19 = nI td)
    (hO : OPm m b n P (sgZ b n (cI (tkk t = 2) (cI (loT w ≤ tkv t ∧ tkv t ≤ hiT w) (Sum.inr (up h w (nI (tkv t)), td, nxT b n t)) (Sum.inl (4, tkf t))) (Sum.inl (flt t 2))))) :
    mw_number x (nI (loT w)) (nI (hiT w)) v (fun r117 u117 => (r117 = 0 → P (0 : Int32) u117) ∧ (¬ r117 = 0 → mw_pressPart_B123 P u117)) := by
  subst hx
  have hlo : loT w < 100 := by unfold loT; split <;> (try split) <;> omega
  have hhi : hiT w < 100 := by unfold hiT; split <;> (try split) <;> omega
  have e2 := mkK_e (k := tkk t) (j := 2) hw.2.2.2.1 (by omega) (by omega)
  have fl : ∀ e : Nat × Nat, (∀ w, FLm m e w → P (nI 0) w) → ∀ w, FLm m e w → ((nI 0 = 0 → P (0 : Int32) w) ∧ (¬ nI 0 = 0 → mw_pressPart_B123 P w)) := fun e hE w hf => ⟨fun _ => hE w hf, fun z => absurd rfl z⟩
  unfold mw_number
  rw [hP.2.2.1.1, li_3]
  by_cases c2 : tkk t = 2
  · rw [cI_t c2] at hO
    have hv := hw.2.2.2.2.2.1 c2
    have f4 : flt t 4 = (4, tkf t) := by unfold flt; rw [if_neg (by omega)]
    refine ⟨fun _ => ?_, fun z => absurd (e2.mpr c2) z⟩
    rw [hP.2.2.1.2.2.2.1 c2]
    by_cases clo : tkv t < loT w
    · rw [cI_f (by omega)] at hO
      exact ⟨fun _ => m_fails (k := 4) hP hw (by omega) (fl _ (by rw [f4]; exact hO)), fun z => absurd (by rw [n_lt_t clo (by omega)]; trivial) z⟩
    · refine ⟨fun z => absurd z (by rw [n_lt_f (by omega) (by omega)]; exact id), fun _ => ?_⟩
      by_cases chi : tkv t ≤ hiT w
      · rw [cI_t ⟨by omega, chi⟩] at hO
        refine ⟨fun _ => ⟨vp_in_nI (by omega) (by omega), fun u45 e => ?_⟩, fun z => absurd (by rw [n_le_t chi (by omega)]; trivial) z⟩
        rw [n_cl (by omega)] at e
        subst e
        have hP2 := hP.wr (k := w) (x := nI (tkv t)) (by omega)
        refine hP2.ahead hw (fun v2 hP3 h192 => ⟨fun z => absurd z (by decide), fun _ => ?_⟩)
        have hw2 := nxT_w hw
        generalize nxT b n t = t2 at hO hP3 hw2
        have hO : OPm m b n P (cI (tkk t2 = 3) (Sum.inr (up h w (nI (tkv t)), td, nxT b n t2)) (Sum.inl (flt t2 2))) := hO
        unfold mw_pressPart_B123
        refine m_wantSign hP3 hw2 (fun c3 w3 hP4 h193 => ⟨fun z => absurd z (by decide), fun _ => ?_⟩) (fun c3 w3 hf => ⟨fun _ => ?_, fun z => absurd rfl z⟩)
        · rw [cI_t c3] at hO
          exact hO w3 hP4 (by rw [h193, h192, jm_ob (by omega)]; exact h19)
        · rw [cI_f c3] at hO
          exact hO w3 hf
      · rw [cI_f (by omega)] at hO
        exact ⟨fun z => absurd z (by rw [n_le_f (by omega) (by omega)]; exact id), fun _ => m_fails (k := 4) hP hw (by omega) (fl _ (by rw [f4]; exact hO))⟩
  · rw [cI_f c2] at hO
    exact ⟨fun z => absurd (e2.mp z) c2, fun _ => m_fails (k := 2) hP hw (by omega) (fl _ hO)⟩
set_option maxHeartbeats 4000000 in
theorem m_pressPart {td : Nat} {P : Int32 → MS → Prop} (hP : PRm m b n h t v) (hw : TKw b n t) (hB : TBI h) (htd : td < 64) (h19 : jm_i v 0 19 = nI td) (hO : OPm m b n P (ptP b n h td t)) : mw_pressPart v P := by
  unfold ptP ptZ at hO
  unfold mw_pressPart
  refine m_inWords hP.2.1 hP.2.2.1 hw ?_
  cases ew : wdI b t with
  | none =>
    rw [ew, cI_f (by simp), cI_f (fun z => by obtain ⟨w, z1, _⟩ := z; simp at z1)] at hO
    exact ⟨fun _ => ⟨fun _ => m_fails (k := 2) hP hw (by omega) hO, fun z => absurd (by decide) z⟩, fun z => absurd z (by decide)⟩
  | some w =>
    obtain ⟨w11, wk⟩ := wdI_lt ew
    rw [ew] at hO
    by_cases w0 : w = 0
    · subst w0
      rw [cI_t rfl] at hO
      exact ⟨fun z => absurd rfl z, fun _ => m_aRule hP hw wk hB h19 (OPm.sg hO)⟩
    · rw [cI_f (fun z => w0 (by injection z))] at hO
      have n0 : ¬ (oI (some w) = 0) := fun z => w0 ((nI_eq (by omega) (by omega)).mp z)
      refine ⟨fun _ => ?_, fun z => absurd z n0⟩
      show (nI w < (1 : Int32) → _) ∧ (¬ nI w < (1 : Int32) → _)
      refine ⟨fun z => absurd z (by rw [li_1, n_lt_f (by omega) (by omega)]; exact id), fun _ => ?_⟩
      show (nI w ≤ (5 : Int32) → _) ∧ (¬ nI w ≤ (5 : Int32) → _)
      by_cases w5 : w ≤ 5
      rotate_left
      · rw [cI_f (fun z => by obtain ⟨w2, z1, z2, z3⟩ := z; injection z1 with z1; omega)] at hO
        exact ⟨fun z => absurd z (by rw [li_5, n_le_f (by omega) (by omega)]; exact id), fun _ => m_fails (k := 2) hP hw (by omega) hO⟩
      · rw [cI_t ⟨w, rfl, by omega, w5⟩] at hO
        have hO : OPm m b n P (sgZ b n (nuX b n h td t w)) := hO
        unfold nuX at hO
        refine ⟨fun _ => ?_, fun z => absurd (by rw [li_5, n_le_t w5 (by omega)]; trivial) z⟩
        obtain ⟨y1, y2⟩ := bt_2 ⟨td, htd⟩ ⟨w, by omega⟩
        have y1 : ((nI td >>> (nI w &&& nI 31)) &&& nI 1) = nI (td / 2 ^ w % 2) := y1
        have y2 : ¬ btT td w → (nI td ||| (nI 1 <<< (nI w &&& nI 31))) = nI (td + 2 ^ w) := y2
        show (¬ ((jm_i v 0 19 >>> (nI w &&& nI 31)) &&& nI 1) = nI 1 → _) ∧ (((jm_i v 0 19 >>> (nI w &&& nI 31)) &&& nI 1) = nI 1 → _)
        rw [h19, y1]
        by_cases cb : btT td w
        · rw [cI_t cb] at hO
          have f5 : flt t 5 = (5, tkf t) := by unfold flt; rw [if_neg (by omega)]
          exact ⟨fun z => absurd (by rw [show td / 2 ^ w % 2 = 1 from cb]) z, fun _ => m_fails (k := 5) hP hw (by omega) (by rw [f5]; exact hO)⟩
        · rw [cI_f cb] at hO
          refine ⟨fun _ u59 e59 => ?_, fun z => absurd ((nI_eq (by omega) (by omega)).mp z) cb⟩
          have e59 : u59 = jm_s v 0 19 (nI td ||| (nI 1 <<< (nI w &&& nI 31))) := e59
          rw [y2 cb] at e59
          subst e59
          refine hP.nu.ahead hw (fun v2 hP2 h192 => ?_)
          rw [jm_same] at h192
          have hw2 := nxT_w hw
          generalize nxT b n t = t2 at hO hP2 hw2
          have gen : ∀ x, x = nI (13200 + w) → mw_number x (nI (loT w)) (nI (hiT w)) v2 (fun r117 u117 => (r117 = 0 → P (0 : Int32) u117) ∧ (¬ r117 = 0 → mw_pressPart_B123 P u117)) := fun x hx => m_number hP2 hw2 (by omega) w5 hx h192 hO
          show (¬ nI w = (4 : Int32) → _) ∧ (nI w = (4 : Int32) → _)
          refine ⟨fun c4 => ⟨fun c5 => ?_, fun c5 => ?_⟩, fun c4 => ?_⟩
          · have z4 : w ≠ 4 := fun z => c4 (by rw [z]; rfl)
            have z5 : w ≠ 5 := fun z => c5 (by rw [z]; rfl)
            have := gen ((13200 : Int32) + nI w) (by rw [li_13200, nI_add])
            unfold loT hiT at this
            rw [if_neg z4, if_neg z5, if_neg z4, if_neg z5] at this
            exact this
          · have z5 : w = 5 := (nI_eq (by omega) (by omega)).mp c5
            subst z5
            exact gen _ rfl
          · have z4 : w = 4 := (nI_eq (by omega) (by omega)).mp c4
            subst z4
            exact gen _ rfl
/-- the reference's outcome of the whole -/
def OWm (m : MS) (b : Nat → Int32) (n : Nat) (P : MS → Prop) : Sum (Nat × Nat) (Nat → Int32) → Prop
  | Sum.inl e => ∀ w, FLm m e w → P w
  | Sum.inr h => ∀ w t, PRm m b n h t w → TBI h → P w
theorem m_press31 {P : Int32 → MS → Prop} : ∀ f h td t v, n - tke t + 1 ≤ f → PRm m b n h t v → TKw b n t → TBI h → TDh td h → jm_i v 0 19 = nI td → OWm m b n (mw_press_B50 P) (psP b n f h td t) → mw_press_L31 P (f + 1) (nI 1) v := by
  intro f
  induction f with
  | zero => intro h td t v hf; omega
  | succ f ih =>
    intro h td t v hf hP hw hB hD h19 hO
    rw [psP] at hO
    rw [mw_press_L31]
    unfold mw_press_L31_S
    refine ⟨fun z => absurd z (by decide), fun _ => ?_⟩
    rw [hP.2.2.1.1]
    by_cases c0 : tkk t = 0
    · rw [cI_t c0] at hO
      exact ⟨fun _ => hO v t hP hB, fun z => absurd ((mkK_0 hw.2.2.2.1).mpr c0) z⟩
    · rw [cI_f c0] at hO
      refine ⟨fun z => absurd ((mkK_0 hw.2.2.2.1).mp z) c0, fun _ => m_pressPart hP hw hB hD.1 h19 ?_⟩
      cases ep : ptP b n h td t with
      | inl e =>
        rw [ep] at hO
        intro w hf
        rw [mw_press_L31]
        unfold mw_press_L31_S
        exact ⟨fun _ => hO w hf, fun z => absurd rfl z⟩
      | inr x =>
        obtain ⟨h2, td2, t2⟩ := x
        rw [ep] at hO
        have ok : TBI h2 ∧ TDh td2 h2 ∧ TKw b n t2 ∧ n - tke t2 + 1 ≤ f := by
          unfold ptP at ep
          cases ex : ptZ b n h td t with
          | inl e => rw [ex] at ep; cases ep
          | inr y =>
            obtain ⟨h3, td3, t3⟩ := y
            obtain ⟨y1, y2, y3⟩ := ptZ_ok hB hD hw ex
            rw [ex] at ep
            have ep : (cI (tkk t3 = 3) (Sum.inr (h3, td3, nxT b n t3)) (Sum.inl (flt t3 2)) : PO) = Sum.inr (h2, td2, t2) := ep
            by_cases c3 : tkk t3 = 3
            · rw [cI_t c3] at ep
              injection ep with ep
              injection ep with e1 e2
              injection e2 with e2 e3
              subst e1 e2 e3
              have q1 := y3.1.2.2.1 (by omega)
              have q2 := nxT_w (b := b) (n := n) y3.1
              have q3 := nxT_ge (b := b) (n := n) (t := t3)
              have q4 := q2.1
              have q5 := q2.2.1
              have q6 := y3.2
              have q7 := y3.1.2.1
              exact ⟨y1, y2, q2, by omega⟩
            · rw [cI_f c3] at ep; cases ep
        exact fun w hPw h19w => ih h2 td2 t2 w ok.2.2.2 hPw ok.2.2.1 ok.1 ok.2.1 h19w hO
/-- an empty slot -/
theorem m_empties {i : Nat} {P : MS → Prop} (hi : i ≤ 4) (hP : ∀ v, (∀ b k, ¬ (b = 1 ∧ 3300 * i ≤ k ∧ k < 3300 * i + 3300) → jm_i v b k = jm_i w b k) → (∀ b k, jm_l v b k = jm_l w b k) → (∀ k, k < 3300 → jm_i v 1 (3300 * i + k) = emT k) → P v) : mw_empties (nI (3300 * i)) w P := by
  unfold mw_empties
  refine lp_st (fun f k v => mw_empties_L2 P (nI (3300 * i)) f (nI k) v) (fun c v => (∀ b k, ¬ (b = 1 ∧ 3300 * i ≤ k ∧ k < 3300 * i + 3300) → jm_i v b k = jm_i w b k) ∧ (∀ b k, jm_l v b k = jm_l w b k) ∧ ∀ k, k < c → jm_i v 1 (3300 * i + k) = nI 0) 3300 0 w (Nat.zero_le _)
    ⟨fun _ _ _ => rfl, fun _ _ => rfl, fun k hk => by omega⟩ (fun f v hI => ?_) (fun f k v hk hI ih => ?_)
  · obtain ⟨h1, h2, h3⟩ := hI
    unfold mw_empties_L2 mw_empties_L2_S
    refine ⟨fun _ => ?_, fun z => absurd (Int32.le_refl _) z⟩
    rw [li_4, li_5, li_7, nI_add, nI_add, nI_add, n_cl (by omega), n_cl (by omega), n_cl (by omega)]
    refine ⟨vp_in_nI (by omega) (by omega), fun u33 e1 => ⟨vp_in_nI (by omega) (by omega), fun u43 e2 => ⟨vp_in_nI (by omega) (by omega), fun u53 e3 => ?_⟩⟩⟩
    subst e1 e2 e3
    refine hP _ (fun b k hk => ?_) (fun b k => h2 b k) (fun k hk => ?_)
    · rw [← h1 b k hk]
      have z1 : ¬ (b = 1 ∧ k = 3300 * i + 7) := fun z => hk (by omega)
      have z2 : ¬ (b = 1 ∧ k = 3300 * i + 5) := fun z => hk (by omega)
      have z3 : ¬ (b = 1 ∧ k = 3300 * i + 4) := fun z => hk (by omega)
      simp only [jm_i, jm_s, if_neg z1, if_neg z2, if_neg z3]
    · unfold emT
      by_cases z7 : k = 7
      · subst z7
        rw [if_neg (by omega), if_neg (by omega), if_pos rfl]
        exact jm_same
      · rw [jm_ok (by omega)]
        by_cases z5 : k = 5
        · subst z5
          rw [if_neg (by omega), if_pos rfl]
          exact jm_same
        · rw [jm_ok (by omega)]
          by_cases z4 : k = 4
          · subst z4
            rw [if_pos rfl]
            exact jm_same
          · rw [jm_ok (by omega), if_neg z4, if_neg z5, if_neg z7]
            exact h3 k hk
  · obtain ⟨h1, h2, h3⟩ := hI
    unfold mw_empties_L2 mw_empties_L2_S
    rw [li_3300]
    refine ⟨fun z => absurd z (by rw [n_le_f (by omega) (by omega)]; exact id), fun _ => ?_⟩
    rw [nI_add, n_cl (by omega)]
    refine ⟨vp_in_nI (by omega) (by omega), fun u17 e1 v18 e2 => ?_⟩
    rw [li_1, nI_add] at e2
    subst e1 e2
    refine ih _ ⟨fun b q hq => ?_, fun b q => h2 b q, fun q hq => ?_⟩
    · rw [← h1 b q hq]
      have z1 : ¬ (b = 1 ∧ q = 3300 * i + k) := fun z => hq (by omega)
      simp only [jm_i, jm_s, if_neg z1]
    · by_cases z : q = k
      · subst z; exact jm_same
      · rw [jm_ok (by omega)]; exact h3 q (by omega)
theorem b8_id {x : Int32} (h : inR x (-128) 127) : x.toInt8.toInt32 = x := by
  obtain ⟨h1, h2⟩ := h
  rw [← Int32.toInt_inj, Int8.toInt_toInt32, Int32.toInt_toInt8, Int.bmod_def]
  omega
/-- the slot that was made is taken -/
theorem m_press59 {P : Int32 → MS → Prop} (hs : ∀ k, k < 3300 → jm_i w 1 (13200 + k) = h k) (hf : jm_i w 0 17 = nI 0) (hP : ∀ v, (∀ b k, ¬ (b = 1 ∧ k < 3300) → ¬ (b = 0 ∧ (k = 15 ∨ k = 1)) → jm_i v b k = jm_i w b k) → (∀ b k, jm_l v b k = jm_l w b k) → (∀ k, k < 3300 → jm_i v 1 k = h k) → jm_i v 0 15 = nI 0 → jm_i v 0 1 = nI 0 → P (h 0) v) : mw_press_B50 P w := by
  unfold mw_press_B50
  rw [hf]
  refine ⟨fun z => absurd rfl z, fun _ => ?_⟩
  refine lp_st (fun f k v => mw_press_L59 P f (nI k) v) (fun c v => (∀ b k, ¬ (b = 1 ∧ k < 3300) → jm_i v b k = jm_i w b k) ∧ (∀ b k, jm_l v b k = jm_l w b k) ∧ ∀ k, k < c → jm_i v 1 k = h k) 3300 0 w (Nat.zero_le _)
    ⟨fun _ _ _ => rfl, fun _ _ => rfl, fun k hk => by omega⟩ (fun f v hI => ?_) (fun f k v hk hI ih => ?_)
  · obtain ⟨h1, h2, h3⟩ := hI
    unfold mw_press_L59 mw_press_L59_S
    refine ⟨fun _ => ?_, fun z => absurd (Int32.le_refl _) z⟩
    rw [h3 0 (by omega)]
    unfold mw_taken
    intro u5 e5
    rw [h1 0 17 (by omega), hf] at e5
    subst e5
    rw [jm_ok (by omega), h1 0 17 (by omega), hf]
    refine ⟨fun _ => ?_, fun z => absurd (Int32.le_refl _) z⟩
    unfold mw_gives
    intro u2 e2
    subst e2
    refine hP _ (fun b k hk hk2 => ?_) (fun b k => h2 b k) (fun k hk => ?_) (by rw [jm_ok (by omega)]; exact jm_same) jm_same
    · rw [← h1 b k hk]
      have z1 : ¬ (b = 0 ∧ k = 1) := fun z => hk2 (by omega)
      have z2 : ¬ (b = 0 ∧ k = 15) := fun z => hk2 (by omega)
      simp only [jm_i, jm_s, if_neg z1, if_neg z2]
    · rw [jm_ob (by omega), jm_ob (by omega)]; exact h3 k hk
  · obtain ⟨h1, h2, h3⟩ := hI
    unfold mw_press_L59 mw_press_L59_S
    rw [li_3300, li_13200]
    refine ⟨fun z => absurd z (by rw [n_le_f (by omega) (by omega)]; exact id), fun _ => ?_⟩
    rw [nI_add, n_cl (by omega), n_cl (by omega), h1 1 (13200 + k) (by omega), hs k hk]
    refine ⟨vp_in_nI (by omega) (by omega), vp_in_nI (by omega) (by omega), fun u17 e1 v18 e2 => ?_⟩
    rw [li_1, nI_add] at e2
    subst e1 e2
    refine ih _ ⟨fun b q hq => ?_, fun b q => h2 b q, fun q hq => ?_⟩
    · rw [← h1 b q hq]
      have z1 : ¬ (b = 1 ∧ q = k) := fun z => hq (by omega)
      simp only [jm_i, jm_s, if_neg z1]
    · by_cases z : q = k
      · subst z; exact jm_same
      · rw [jm_ok (by omega)]; exact h3 q (by omega)
end PRK
