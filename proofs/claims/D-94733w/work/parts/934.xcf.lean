/-! PLAIN LAW: press: the next token, the reference -/
set_option linter.unusedVariables false
section PRA
variable {u v w : MS} {b : Nat → Int32} {n : Nat}
/-- the text of the reference -/
def TXm (b : Nat → Int32) (n : Nat) (u : MS) : Prop := jm_i u 0 10 = nI n ∧ (∀ k, k < n → jm_i u 6 k = b k ∧ inR (b k) (-128) 127) ∧ n ≤ 900
def mkK (k : Nat) : Nat := if k = 4 then 1 else if k = 0 then 0 else k + 1
/-- a token of the reference -/
def TKm (u : MS) (t : TK) : Prop := jm_i u 0 11 = nI (mkK (tkk t)) ∧ jm_i u 0 12 = nI (tkf t) ∧ jm_i u 0 13 = nI (tke t) ∧ (tkk t = 2 → jm_i u 0 14 = nI (tkv t)) ∧ (tkk t = 3 → jm_i u 0 14 = nI 59)
/-- only the token changes -/
def FRt (u v : MS) : Prop := (∀ b k, ¬ (b = 0 ∧ 11 ≤ k ∧ k ≤ 14) → jm_i v b k = jm_i u b k) ∧ ∀ b k, jm_l v b k = jm_l u b k
theorem FRt.refl : FRt u u := ⟨fun _ _ _ => rfl, fun _ _ => rfl⟩
theorem FRt.s {k : Nat} {x : Int32} (h : FRt u v) (hk : 11 ≤ k ∧ k ≤ 14) : FRt u (jm_s v 0 k x) := by
  refine ⟨fun b2 k2 q => ?_, h.2⟩
  have : ¬ (b2 = 0 ∧ k2 = k) := fun e => q ⟨e.1, by omega⟩
  rw [← h.1 b2 k2 q]; simp [jm_i, jm_s, this]
theorem FRt.trans (h1 : FRt u v) (h2 : FRt v w) : FRt u w := ⟨fun b k q => (h2.1 b k q).trans (h1.1 b k q), fun b k => (h2.2 b k).trans (h1.2 b k)⟩
theorem TXm.fr (h : TXm b n u) (hf : FRt u v) : TXm b n v := ⟨by rw [hf.1 _ _ (by omega)]; exact h.1, fun k hk => by rw [hf.1 _ _ (by omega)]; exact h.2.1 k hk, h.2.2⟩
/-- a byte as it is shown -/
noncomputable def byV (b : Nat → Int32) (n p : Nat) : Int32 := cI (p < n) (b p &&& nI 255) iM
theorem m_bt {p : Nat} {P : Int32 → MS → Prop} (hT : TXm b n u) (hp : p < 100000) (hP : P (byV b n p) u) : mw_byteAt (nI p) u P := by
  obtain ⟨h10, h6, hn⟩ := hT
  unfold mw_byteAt
  rw [h10]
  by_cases c : p < n
  · unfold byV at hP
    rw [cI_t c] at hP
    refine ⟨fun z => absurd z (by rw [n_le_f (by omega) (by omega)]; exact id), fun _ => ⟨vp_in_nI (by omega) (by omega), ?_⟩⟩
    rw [n_cl (by omega), (h6 p c).1]
    exact hP
  · unfold byV at hP
    rw [cI_f c] at hP
    exact ⟨fun _ => hP, fun z => absurd (by rw [n_le_t (by omega) (by omega)]; trivial) z⟩
theorem m_btx {x : Int32} {p : Nat} {P : Int32 → MS → Prop} (hx : x = nI p) (hT : TXm b n u) (hp : p < 100000) (hP : P (byV b n p) u) : mw_byteAt x u P := by rw [hx]; exact m_bt hT hp hP
theorem byV_s {p : Nat} (hT : TXm b n u) {x y : Int} (hx : 0 ≤ x ∧ y < 128) : inR (byV b n p) x y ↔ p < n ∧ inR (b p) x y := by
  unfold byV
  by_cases c : p < n
  · rw [cI_t c, ub_r (hT.2.1 p c).2 hx]
    exact ⟨fun z => ⟨c, z⟩, fun z => z.2⟩
  · rw [cI_f c]
    unfold inR
    rw [iM_toInt]
    omega
theorem byV_e {p x : Nat} (hT : TXm b n u) (hx : x < 128) : byV b n p = nI x ↔ p < n ∧ b p = nI x := by
  unfold byV
  by_cases c : p < n
  · rw [cI_t c, ub_e (hT.2.1 p c).2 hx]
    exact ⟨fun z => ⟨c, z⟩, fun z => z.2⟩
  · rw [cI_f c, M_eqn (by omega)]
    exact ⟨fun z => z.elim, fun z => absurd z.1 c⟩
theorem byV_m {p : Nat} (hT : TXm b n u) : byV b n p = iM ↔ n ≤ p := by
  unfold byV
  by_cases c : p < n
  · rw [cI_t c]
    exact ⟨fun z => absurd z (ub_m (hT.2.1 p c).2), fun z => by omega⟩
  · rw [cI_f c]
    exact ⟨fun _ => by omega, fun _ => rfl⟩
theorem byV_d {p : Nat} (hT : TXm b n u) (hp : p < n) (h : inR (b p) 48 57) : byV b n p = nI (48 + dgN (b p)) := by
  have e := (dgN_le h).2
  have e2 := (dgN_le h).1
  exact (byV_e hT (by omega)).mpr ⟨hp, e⟩
theorem m_ah81 {p0 : Nat} {P : MS → Prop} (hT : TXm b n u) : ∀ f p v, n ≤ p + f → p ≤ n → FRt u v → jm_i v 0 12 = nI p0 → jm_i v 0 13 = nI p → (∀ w, FRt u w → jm_i w 0 11 = nI 2 → jm_i w 0 12 = nI p0 → jm_i w 0 13 = nI (rnE (fun q => inR (b q) 97 122) n f p) → P w) → mw_ahead_L81 P (f + 1) v := by
  intro f
  induction f with
  | zero =>
    intro p v h1 hpn hf h12 h13 hP
    have hT2 := hT.fr hf
    have hn := hT.2.2
    unfold mw_ahead_L81 mw_ahead_L81_S
    rw [h13]
    refine m_bt hT2 (by omega) ?_
    rw [e_mw_isSmall, bI_f (fun z => by have := ((byV_s hT2 (x := 97) (y := 122) (by omega)).mp z).1; omega)]
    refine ⟨fun _ w e => ?_, fun z => absurd rfl z⟩
    subst e
    exact hP _ (hf.s (by omega)) jm_same (by rw [jm_ok (by omega), h12]) (by rw [jm_ok (by omega), h13]; rfl)
  | succ f ih =>
    intro p v h1 hpn hf h12 h13 hP
    have hT2 := hT.fr hf
    have hn := hT.2.2
    unfold mw_ahead_L81 mw_ahead_L81_S
    rw [h13]
    refine m_bt hT2 (by omega) ?_
    rw [e_mw_isSmall]
    by_cases c : p < n ∧ inR (b p) 97 122
    · rw [bI_t ((byV_s hT2 (x := 97) (y := 122) (by omega)).mpr c)]
      refine ⟨fun z => absurd z (by decide), fun _ w e => ?_⟩
      rw [h13, li_1, nI_add] at e
      subst e
      rw [rnE_t c] at hP
      exact ih (p + 1) _ (by omega) (by omega) (hf.s (by omega)) (by rw [jm_ok (by omega), h12]) jm_same hP
    · rw [bI_f (fun z => c ((byV_s hT2 (x := 97) (y := 122) (by omega)).mp z))]
      rw [rnE_f c] at hP
      refine ⟨fun _ w e => ?_, fun z => absurd rfl z⟩
      subst e
      exact hP _ (hf.s (by omega)) jm_same (by rw [jm_ok (by omega), h12]) (by rw [jm_ok (by omega), h13])
theorem m_ah128 {p0 : Nat} {P : MS → Prop} (hT : TXm b n u) : ∀ f p v, n ≤ p + f → p ≤ n → p0 ≤ p → FRt u v → jm_i v 0 12 = nI p0 → jm_i v 0 13 = nI p → jm_i v 0 14 = nI (vlN b p0 (p - p0)) → (∀ w, FRt u w → jm_i w 0 11 = cI (rnE (fun q => inR (b q) 48 57) n f p - p0 ≤ 4) (nI 3) (nI 1) → jm_i w 0 12 = nI p0 → jm_i w 0 13 = nI (rnE (fun q => inR (b q) 48 57) n f p) → jm_i w 0 14 = nI (vlN b p0 (rnE (fun q => inR (b q) 48 57) n f p - p0)) → P w) → mw_ahead_L128 P (f + 1) v := by
  have fin : ∀ p v, p ≤ n → p0 ≤ p → FRt u v → jm_i v 0 12 = nI p0 → jm_i v 0 13 = nI p → jm_i v 0 14 = nI (vlN b p0 (p - p0)) → (∀ w, FRt u w → jm_i w 0 11 = cI (p - p0 ≤ 4) (nI 3) (nI 1) → jm_i w 0 12 = nI p0 → jm_i w 0 13 = nI p → jm_i w 0 14 = nI (vlN b p0 (p - p0)) → P w) →
      ((((jm_i v 0 13) - (jm_i v 0 12)) ≤ (4 : Int32) → ∀ u202 : MS, u202 = jm_s v 0 11 (3 : Int32) → P u202) ∧ (¬ ((jm_i v 0 13) - (jm_i v 0 12)) ≤ (4 : Int32) → ∀ u202 : MS, u202 = jm_s v 0 11 (1 : Int32) → P u202)) := by
    intro p v hpn hp hf h12 h13 h14 hP
    have hn := hT.2.2
    rw [h12, h13, n_sub hp, li_4]
    by_cases c : p - p0 ≤ 4
    · refine ⟨fun _ w e => ?_, fun z => absurd (by rw [n_le_t c (by omega)]; trivial) z⟩
      subst e
      exact hP _ (hf.s (by omega)) (by rw [cI_t c]; exact jm_same) (by rw [jm_ok (by omega), h12]) (by rw [jm_ok (by omega), h13]) (by rw [jm_ok (by omega), h14])
    · refine ⟨fun z => absurd z (by rw [n_le_f (by omega) (by omega)]; exact id), fun _ w e => ?_⟩
      subst e
      exact hP _ (hf.s (by omega)) (by rw [cI_f c]; exact jm_same) (by rw [jm_ok (by omega), h12]) (by rw [jm_ok (by omega), h13]) (by rw [jm_ok (by omega), h14])
  intro f
  induction f with
  | zero =>
    intro p v h1 hpn hp hf h12 h13 h14 hP
    have hT2 := hT.fr hf
    have hn := hT.2.2
    unfold mw_ahead_L128 mw_ahead_L128_S
    rw [h13]
    refine m_bt hT2 (by omega) ?_
    rw [e_mw_isDigit, bI_f (fun z => by have := ((byV_s hT2 (x := 48) (y := 57) (by omega)).mp z).1; omega)]
    exact ⟨fun _ => fin p v hpn hp hf h12 h13 h14 hP, fun z => absurd rfl z⟩
  | succ f ih =>
    intro p v h1 hpn hp hf h12 h13 h14 hP
    have hT2 := hT.fr hf
    have hn := hT.2.2
    unfold mw_ahead_L128 mw_ahead_L128_S
    rw [h13]
    refine m_bt hT2 (by omega) ?_
    rw [e_mw_isDigit]
    by_cases c : p < n ∧ inR (b p) 48 57
    · rw [bI_t ((byV_s hT2 (x := 48) (y := 57) (by omega)).mpr c)]
      refine ⟨fun z => absurd z (by decide), fun _ => m_btx h13 hT2 (by omega) ?_⟩
      have hd := dgN_le c.2
      have hv := vlN_le (b := b) (p := p0) (p - p0)
      rw [byV_d hT2 c.1 c.2, h14]
      unfold jw_min
      intro w1 e1 w2 e2
      have ev : (if ((10 : Int32) * nI (vlN b p0 (p - p0)) + nI (48 + dgN (b p)) - (48 : Int32)) < (100000 : Int32) then ((10 : Int32) * nI (vlN b p0 (p - p0)) + nI (48 + dgN (b p)) - (48 : Int32)) else (100000 : Int32)) = nI (vlN b p0 (p + 1 - p0)) := by
        rw [li_10, li_48, li_100000, pk_mul, nI_add, n_sub (by omega), show p + 1 - p0 = (p - p0) + 1 by omega]
        show _ = nI (min 100000 (10 * vlN b p0 (p - p0) + dgN (b (p0 + (p - p0)))))
        rw [show p0 + (p - p0) = p by omega, show 10 * vlN b p0 (p - p0) + (48 + dgN (b p)) - 48 = 10 * vlN b p0 (p - p0) + dgN (b p) by omega]
        by_cases c2 : 10 * vlN b p0 (p - p0) + dgN (b p) < 100000
        · rw [if_pos (by rw [n_lt_t c2 (by omega)]; trivial), Nat.min_eq_right (by omega)]
        · rw [if_neg (by rw [n_lt_f (by omega) (by omega)]; exact id), Nat.min_eq_left (by omega)]
      rw [ev] at e1
      subst e1
      rw [jm_ok (by omega), h13, li_1, nI_add] at e2
      subst e2
      rw [rnE_t c] at hP
      exact ih (p + 1) _ (by omega) (by omega) (by omega) ((hf.s (by omega)).s (by omega)) (by rw [jm_ok (by omega), jm_ok (by omega), h12]) jm_same (by rw [jm_ok (by omega), jm_same]) hP
    · rw [bI_f (fun z => c ((byV_s hT2 (x := 48) (y := 57) (by omega)).mp z))]
      rw [rnE_f c] at hP
      exact ⟨fun _ => fin p v hpn hp hf h12 h13 h14 hP, fun z => absurd rfl z⟩
theorem m_ahead {p0 : Nat} {P : MS → Prop} (hT : TXm b n u) (hp0 : p0 ≤ n) (h13 : jm_i u 0 13 = nI p0) (hP : ∀ v, FRt u v → TKm v (tkA b n p0) → P v) : mw_ahead u P := by
  have hn := hT.2.2
  have body : ∀ p v (R : MS → Prop), p ≤ n → FRt u v → jm_i v 0 13 = nI p → ¬ (p < n ∧ isB (b p)) → (∀ w, FRt u w → TKm w (tkB b n p) → P w) → mw_ahead_L0_S P R v := by
    intro p v R hp hf h13 hnb hP
    have hT2 := hT.fr hf
    unfold mw_ahead_L0_S
    rw [h13]
    refine m_bt hT2 (by omega) ⟨fun z => absurd ((byV_e hT2 (x := 32) (by omega)).mp z) (fun z => hnb ⟨z.1, Or.inr z.2⟩), fun _ => m_btx h13 hT2 (by omega) ⟨fun _ => ?_, fun z => absurd ((byV_e hT2 (x := 10) (by omega)).mp z) (fun z => hnb ⟨z.1, Or.inl z.2⟩)⟩⟩
    intro u44 e44
    have e44 : u44 = jm_s v 0 12 (nI p) := by rw [e44, h13]
    subst e44
    rw [show jm_i (jm_s v 0 12 (nI p)) 0 13 = nI p by rw [jm_ok (by omega), h13]]
    have hf1 := hf.s (k := 12) (x := nI p) (by omega)
    refine m_bt (hT.fr hf1) (by omega) (fun u58 e58 => ?_)
    subst e58
    have hf2 := hf1.s (k := 14) (x := byV b n p) (by omega)
    have hT3 := hT.fr hf2
    have g12 : jm_i (jm_s (jm_s v 0 12 (nI p)) 0 14 (byV b n p)) 0 12 = nI p := by rw [jm_ok (by omega), jm_same]
    have g13 : jm_i (jm_s (jm_s v 0 12 (nI p)) 0 14 (byV b n p)) 0 13 = nI p := by rw [jm_ok (by omega), jm_ok (by omega), h13]
    have g14 : jm_i (jm_s (jm_s v 0 12 (nI p)) 0 14 (byV b n p)) 0 14 = byV b n p := jm_same
    generalize jm_s (jm_s v 0 12 (nI p)) 0 14 (byV b n p) = u3 at hf2 hT3 g12 g13 g14 ⊢
    by_cases hpn : n ≤ p
    · rw [tkB_0 hpn] at hP
      refine ⟨fun z => absurd ((byV_m hT2).mpr hpn) z, fun _ w e => ?_⟩
      subst e
      exact hP _ (hf2.s (by omega)) ⟨jm_same, by rw [jm_ok (by omega)]; exact g12, by rw [jm_ok (by omega)]; exact g13, fun z => (by cases z), fun z => (by cases z)⟩
    · have hpn : p < n := by omega
      refine ⟨fun _ => ?_, fun z => absurd ((byV_m hT2).mp z) (by omega)⟩
      rw [e_mw_isSmall]
      by_cases h1 : inR (b p) 97 122
      · rw [bI_t ((byV_s hT2 (x := 97) (y := 122) (by omega)).mpr ⟨hpn, h1⟩)]
        refine ⟨fun z => absurd z (by decide), fun _ => ⟨_, m_ah81 hT (n - p) p u3 (by omega) hp hf2 g12 g13 (fun w hw k11 k12 k13 => ?_)⟩⟩
        rw [tkB_1 hpn h1] at hP
        exact hP w hw ⟨k11, k12, k13, fun z => (by cases z), fun z => (by cases z)⟩
      · rw [bI_f (fun z => h1 ((byV_s hT2 (x := 97) (y := 122) (by omega)).mp z).2), e_mw_isDigit]
        refine ⟨fun _ => ?_, fun z => absurd rfl z⟩
        by_cases h2 : inR (b p) 48 57
        · rw [bI_t ((byV_s hT2 (x := 48) (y := 57) (by omega)).mpr ⟨hpn, h2⟩)]
          refine ⟨fun z => absurd z (by decide), fun _ u125 e125 => ?_⟩
          subst e125
          refine ⟨_, m_ah128 hT (n - p) p _ (by omega) hp (Nat.le_refl _) (hf2.s (by omega)) (by rw [jm_ok (by omega)]; exact g12) (by rw [jm_ok (by omega)]; exact g13) (by rw [jm_same, Nat.sub_self]; rfl) (fun w hw k11 k12 k13 k14 => ?_)⟩
          rw [tkB_2 hpn h2] at hP
          refine hP w hw ⟨?_, k12, k13, fun _ => k14, fun z => ?_⟩
          · rw [k11]
            show _ = nI (mkK (cI (dgE b n p - p ≤ 4) 2 4))
            unfold dgE
            by_cases c : rnE (fun q => inR (b q) 48 57) n (n - p) p - p ≤ 4
            · rw [cI_t c, cI_t c]; rfl
            · rw [cI_f c, cI_f c]; rfl
          · have z : cI (dgE b n p - p ≤ 4) 2 4 = 3 := z
            by_cases c : dgE b n p - p ≤ 4
            · rw [cI_t c] at z; omega
            · rw [cI_f c] at z; omega
        · rw [bI_f (fun z => h2 ((byV_s hT2 (x := 48) (y := 57) (by omega)).mp z).2)]
          refine ⟨fun _ u215 e215 => ?_, fun z => absurd rfl z⟩
          rw [g13, li_1, nI_add] at e215
          subst e215
          have hf4 := hf2.s (k := 13) (x := nI (p + 1)) (by omega)
          rw [tkB_3 hpn h1 h2] at hP
          have hb := byV_e (p := p) (x := 59) hT2 (by omega)
          refine ⟨fun z w e => ?_, fun z w e => ?_⟩
          · subst e
            have c : ¬ b p = nI 59 := fun c => z (hb.mpr ⟨hpn, c⟩)
            rw [cI_f c] at hP
            exact hP _ (hf4.s (by omega)) ⟨jm_same, by rw [jm_ok (by omega), jm_ok (by omega)]; exact g12, by rw [jm_ok (by omega), jm_same]; rfl, fun z => (by cases z), fun z => (by cases z)⟩
          · subst e
            have c : b p = nI 59 := (hb.mp z).2
            rw [cI_t c] at hP
            exact hP _ (hf4.s (by omega)) ⟨jm_same, by rw [jm_ok (by omega), jm_ok (by omega)]; exact g12, by rw [jm_ok (by omega), jm_same]; rfl, fun z => (by cases z), fun _ => by rw [jm_ok (by omega), jm_ok (by omega), g14]; exact z⟩
  have key : ∀ f p v, n ≤ p + f → p ≤ n → FRt u v → jm_i v 0 13 = nI p → (∀ w, FRt u w → TKm w (tkB b n (rnE (fun q => isB (b q)) n f p)) → P w) → mw_ahead_L0 P (f + 1) v := by
    intro f
    induction f with
    | zero =>
      intro p v h1 hp hf h13 hP
      rw [mw_ahead_L0]
      exact body p v _ hp hf h13 (fun z => by omega) hP
    | succ f ih =>
      intro p v h1 hp hf h13 hP
      by_cases c : p < n ∧ isB (b p)
      · rw [rnE_t c] at hP
        have hT2 := hT.fr hf
        have next : mw_ahead_L0 P (f + 1) (jm_s v 0 13 (nI (p + 1))) := ih (p + 1) _ (by omega) (by omega) (hf.s (by omega)) jm_same hP
        rw [mw_ahead_L0]
        show mw_ahead_L0_S P _ v
        unfold mw_ahead_L0_S
        refine m_btx h13 hT2 (by omega) ⟨fun _ w e => ?_, fun c32 => m_btx h13 hT2 (by omega) ⟨fun c10 => ?_, fun _ w e => ?_⟩⟩
        · rw [h13, li_1, nI_add] at e
          subst e
          exact next
        · rcases c.2 with z | z
          · exact absurd ((byV_e hT2 (x := 10) (by omega)).mpr ⟨c.1, z⟩) c10
          · exact absurd ((byV_e hT2 (x := 32) (by omega)).mpr ⟨c.1, z⟩) c32
        · rw [h13, li_1, nI_add] at e
          subst e
          exact next
      · rw [rnE_f c] at hP
        rw [mw_ahead_L0]
        exact body p v _ hp hf h13 c hP
  exact ⟨_, key (n - p0) p0 u (by omega) hp0 FRt.refl h13 hP⟩
end PRA
