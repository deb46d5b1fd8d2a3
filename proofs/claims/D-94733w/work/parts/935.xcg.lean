/-! PLAIN LAW: press: the next token, the component -/
set_option linter.unusedVariables false
section PRB
variable {a : Nat → Nat} {K : XK} {u v w : XS} {b : Nat → Int32} {n x0 : Nat}
/-- the reader and its text -/
def TXx (a : Nat → Nat) (b : Nat → Int32) (n x0 : Nat) (K : XK) (u : XS) : Prop :=
  K x0 = (1, 8) ∧ xi u x0 0 = nI n ∧ xr u x0 7 = some (a 0) ∧ K (a 0) = (1, 0) ∧ xr u (a 0) 2 = some (a 1) ∧ K (a 1) = (3, 900) ∧ (∀ k, k < n → xi u (a 1) k = b k) ∧ n ≤ 900 ∧ a 1 ≠ x0
/-- a token of the component -/
def TKx (x0 : Nat) (u : XS) (t : TK) : Prop := xi u x0 3 = nI (tkk t) ∧ xi u x0 1 = nI (tkf t) ∧ xi u x0 2 = nI (tke t) ∧ (tkk t = 2 → xi u x0 4 = nI (tkv t))
/-- only the token changes -/
def FRx (x0 : Nat) (u v : XS) : Prop := (∀ b k, ¬ (b = x0 ∧ 1 ≤ k ∧ k ≤ 4) → xi v b k = xi u b k) ∧ (∀ b k, xl v b k = xl u b k) ∧ ∀ b k, xr v b k = xr u b k
theorem FRx.refl : FRx x0 u u := ⟨fun _ _ _ => rfl, fun _ _ => rfl, fun _ _ => rfl⟩
theorem FRx.s {k : Nat} {x : Int32} (h : FRx x0 u v) (hk : 1 ≤ k ∧ k ≤ 4) : FRx x0 u (xsi v x0 k x) := by
  refine ⟨fun b2 k2 q => ?_, h.2.1, h.2.2⟩
  have : ¬ (b2 = x0 ∧ k2 = k) := fun e => q ⟨e.1, by omega⟩
  rw [← h.1 b2 k2 q]; simp [xi, xsi, this]
theorem FRx.trans (h1 : FRx x0 u v) (h2 : FRx x0 v w) : FRx x0 u w := ⟨fun b k q => (h2.1 b k q).trans (h1.1 b k q), fun b k => (h2.2.1 b k).trans (h1.2.1 b k), fun b k => (h2.2.2 b k).trans (h1.2.2 b k)⟩
theorem TXx.fr (h : TXx a b n x0 K u) (hf : FRx x0 u v) : TXx a b n x0 K v := by
  obtain ⟨h1, h2, h3, h4, h5, h6, h7, h8, h9⟩ := h
  exact ⟨h1, by rw [hf.1 _ _ (by omega)]; exact h2, by rw [hf.2.2]; exact h3, h4, by rw [hf.2.2]; exact h5, h6, fun k hk => by rw [hf.1 _ _ (fun z => h9 z.1)]; exact h7 k hk, h8, h9⟩
theorem x_wb {p : Nat} {P : Int32 → XS → Prop} (hT : TXx a b n x0 K u) (hp : p < 100000) (hP : P (cI (p < n ∧ inR (b p) 97 122) (nI 1) (nI 0)) u) : xw8_isWordByte x0 (nI p) K u P := by
  obtain ⟨h1, h2, h3, h4, h5, h6, h7, h8, h9⟩ := hT
  unfold xw8_isWordByte
  rw [h2]
  by_cases c : p < n
  · refine ⟨h1, fun z => absurd z (by rw [n_le_f (by omega) (by omega)]; exact id), fun _ => ⟨a 0, h3, h4, a 1, h5, 900, h6, vp_in_nI (by omega) (by omega), ?_⟩⟩
    rw [n_cl (by omega), h7 p c, e_xs_isSmall]
    by_cases c2 : inR (b p) 97 122
    · rw [bI_t c2]
      rw [cI_t ⟨c, c2⟩] at hP
      exact ⟨fun z => absurd z (by decide), fun _ => hP⟩
    · rw [bI_f c2]
      rw [cI_f (fun z => c2 z.2)] at hP
      exact ⟨fun _ => hP, fun z => absurd rfl z⟩
  · rw [cI_f (fun z => c z.1)] at hP
    exact ⟨h1, fun _ => hP, fun z => absurd (by rw [n_le_t (by omega) (by omega)]; trivial) z⟩
theorem x_db {p : Nat} {P : Int32 → XS → Prop} (hT : TXx a b n x0 K u) (hp : p < 100000) (hP : P (cI (p < n ∧ inR (b p) 48 57) (nI 1) (nI 0)) u) : xw8_isDigit x0 (nI p) K u P := by
  obtain ⟨h1, h2, h3, h4, h5, h6, h7, h8, h9⟩ := hT
  unfold xw8_isDigit
  rw [h2]
  by_cases c : p < n
  · refine ⟨h1, fun z => absurd z (by rw [n_le_f (by omega) (by omega)]; exact id), fun _ => ⟨a 0, h3, h4, a 1, h5, 900, h6, vp_in_nI (by omega) (by omega), ?_⟩⟩
    rw [n_cl (by omega), h7 p c, e_xs_isFigure]
    by_cases c2 : inR (b p) 48 57
    · rw [bI_t c2]
      rw [cI_t ⟨c, c2⟩] at hP
      exact ⟨fun z => absurd z (by decide), fun _ => hP⟩
    · rw [bI_f c2]
      rw [cI_f (fun z => c2 z.2)] at hP
      exact ⟨fun _ => hP, fun z => absurd rfl z⟩
  · rw [cI_f (fun z => c z.1)] at hP
    exact ⟨h1, fun _ => hP, fun z => absurd (by rw [n_le_t (by omega) (by omega)]; trivial) z⟩
theorem x_nx91 {p0 : Nat} {P : XS → Prop} (hT : TXx a b n x0 K u) : ∀ f p v, n ≤ p + f → p ≤ n → FRx x0 u v → xi v x0 1 = nI p0 → xi v x0 2 = nI p → xi v x0 3 = nI 1 → (∀ w, FRx x0 u w → xi w x0 3 = nI 1 → xi w x0 1 = nI p0 → xi w x0 2 = nI (rnE (fun q => inR (b q) 97 122) n f p) → P w) → xw8_next_L91 P K x0 (f + 1) v := by
  intro f
  induction f with
  | zero =>
    intro p v h1 hpn hf h12 h13 h3 hP
    have hT2 := hT.fr hf
    have hn := hT.2.2.2.2.2.2.2.1
    unfold xw8_next_L91 xw8_next_L91_S
    rw [h13]
    refine ⟨hT.1, x_wb hT2 (by omega) ?_⟩
    rw [cI_f (fun z => by omega)]
    exact ⟨fun _ => hP _ hf h3 h12 h13, fun z => absurd rfl z⟩
  | succ f ih =>
    intro p v h1 hpn hf h12 h13 h3 hP
    have hT2 := hT.fr hf
    have hn := hT.2.2.2.2.2.2.2.1
    unfold xw8_next_L91 xw8_next_L91_S
    rw [h13]
    refine ⟨hT.1, x_wb hT2 (by omega) ?_⟩
    by_cases c : p < n ∧ inR (b p) 97 122
    · rw [cI_t c]
      refine ⟨fun z => absurd z (by decide), fun _ w e => ?_⟩
      rw [h13, li_1, nI_add] at e
      subst e
      rw [rnE_t c] at hP
      exact ih (p + 1) _ (by omega) (by omega) (hf.s (by omega)) (by rw [xi_ok (by omega), h12]) xi_same (by rw [xi_ok (by omega), h3]) hP
    · rw [cI_f c]
      rw [rnE_f c] at hP
      exact ⟨fun _ => hP _ hf h3 h12 h13, fun z => absurd rfl z⟩
theorem x_nx131 {p0 : Nat} {P : XS → Prop} (hT : TXx a b n x0 K u) : ∀ f p v, n ≤ p + f → p ≤ n → p0 ≤ p → (∀ j, j < p - p0 → inR (b (p0 + j)) 48 57) → FRx x0 u v → xi v x0 1 = nI p0 → xi v x0 2 = nI p → (p - p0 ≤ 4 → xi v x0 4 = nI (vlN b p0 (p - p0))) → (∀ w, FRx x0 u w → xi w x0 3 = cI (rnE (fun q => inR (b q) 48 57) n f p - p0 ≤ 4) (nI 2) (nI 4) → xi w x0 1 = nI p0 → xi w x0 2 = nI (rnE (fun q => inR (b q) 48 57) n f p) → (rnE (fun q => inR (b q) 48 57) n f p - p0 ≤ 4 → xi w x0 4 = nI (vlN b p0 (rnE (fun q => inR (b q) 48 57) n f p - p0))) → P w) → xw8_next_L131 P K x0 (f + 1) v := by
  have fin : ∀ p v, p ≤ n → p0 ≤ p → FRx x0 u v → xi v x0 1 = nI p0 → xi v x0 2 = nI p → (p - p0 ≤ 4 → xi v x0 4 = nI (vlN b p0 (p - p0))) → (∀ w, FRx x0 u w → xi w x0 3 = cI (p - p0 ≤ 4) (nI 2) (nI 4) → xi w x0 1 = nI p0 → xi w x0 2 = nI p → (p - p0 ≤ 4 → xi w x0 4 = nI (vlN b p0 (p - p0))) → P w) →
      ((((xi v x0 2) - (xi v x0 1)) ≤ (4 : Int32) → ∀ u214 : XS, u214 = xsi v x0 3 (2 : Int32) → P u214) ∧ (¬ ((xi v x0 2) - (xi v x0 1)) ≤ (4 : Int32) → ∀ u214 : XS, u214 = xsi v x0 3 (4 : Int32) → P u214)) := by
    intro p v hpn hp hf h12 h13 h14 hP
    have hn := hT.2.2.2.2.2.2.2.1
    rw [h12, h13, n_sub hp, li_4]
    by_cases c : p - p0 ≤ 4
    · refine ⟨fun _ w e => ?_, fun z => absurd (by rw [n_le_t c (by omega)]; trivial) z⟩
      subst e
      exact hP _ (hf.s (by omega)) (by rw [cI_t c]; exact xi_same) (by rw [xi_ok (by omega), h12]) (by rw [xi_ok (by omega), h13]) (fun z => by rw [xi_ok (by omega), h14 z])
    · refine ⟨fun z => absurd z (by rw [n_le_f (by omega) (by omega)]; exact id), fun _ w e => ?_⟩
      subst e
      exact hP _ (hf.s (by omega)) (by rw [cI_f c]; exact xi_same) (by rw [xi_ok (by omega), h12]) (by rw [xi_ok (by omega), h13]) (fun z => by rw [xi_ok (by omega), h14 z])
  intro f
  induction f with
  | zero =>
    intro p v h1 hpn hp hd hf h12 h13 h14 hP
    have hT2 := hT.fr hf
    have hn := hT.2.2.2.2.2.2.2.1
    unfold xw8_next_L131 xw8_next_L131_S
    rw [h13]
    refine ⟨hT.1, x_db hT2 (by omega) ?_⟩
    rw [cI_f (fun z => by omega)]
    exact ⟨fun _ => fin p v hpn hp hf h12 h13 h14 hP, fun z => absurd rfl z⟩
  | succ f ih =>
    intro p v h1 hpn hp hd hf h12 h13 h14 hP
    have hT2 := hT.fr hf
    have hn := hT.2.2.2.2.2.2.2.1
    unfold xw8_next_L131 xw8_next_L131_S
    rw [h13]
    refine ⟨hT.1, x_db hT2 (by omega) ?_⟩
    by_cases c : p < n ∧ inR (b p) 48 57
    · rw [cI_t c]
      rw [rnE_t c] at hP
      have hd2 : ∀ j, j < p + 1 - p0 → inR (b (p0 + j)) 48 57 := fun j hj => by
        by_cases z : j = p - p0
        · subst z; rw [show p0 + (p - p0) = p by omega]; exact c.2
        · exact hd j (by omega)
      have hdg := dgN_le c.2
      refine ⟨fun z => absurd z (by decide), fun _ => ⟨fun c4 w e => ?_, fun c4 => ⟨a 0, hT2.2.2.1, hT.2.2.2.1, a 1, hT2.2.2.2.2.1, 900, hT.2.2.2.2.2.1, ?_⟩⟩⟩
      · rw [h13, h12, n_sub hp, li_4] at c4
        have c5 : ¬ p - p0 < 4 := fun z => by rw [n_le_f z (by omega)] at c4; exact c4
        rw [h13, li_1, nI_add] at e
        subst e
        exact ih (p + 1) _ (by omega) (by omega) (by omega) hd2 (hf.s (by omega)) (by rw [xi_ok (by omega), h12]) xi_same (fun z => by omega) hP
      · rw [h13, h12, n_sub hp, li_4] at c4
        rw [h13]
        have c5 : p - p0 < 4 := by
          rcases Nat.lt_or_ge (p - p0) 4 with z | z
          · exact z
          · exact absurd (by rw [n_le_t z (by omega)]; trivial) c4
        refine ⟨vp_in_nI (by omega) (by omega), fun w1 e1 w2 e2 => ?_⟩
        have hv := vlN_lt (b := b) (p := p0) (p - p0) (by omega) (fun j hj => hd j (by omega))
        have hv2 : 10 ^ (p - p0) ≤ 10 ^ 4 := Nat.pow_le_pow_right (by omega) (by omega)
        have hvs := vlN_s (b := b) (p := p0) (k := p - p0) c5 (fun j hj => hd2 j (by omega))
        rw [show p0 + (p - p0) = p by omega] at hvs
        rw [n_cl (by omega), hT2.2.2.2.2.2.2.1 p c.1, hdg.2, h14 (by omega), li_10, li_48, pk_mul, nI_add, n_sub (by omega), show 10 * vlN b p0 (p - p0) + (48 + dgN (b p)) - 48 = 10 * vlN b p0 (p - p0) + dgN (b p) by omega, ← hvs] at e1
        subst e1
        rw [xi_ok (by omega), h13, li_1, nI_add] at e2
        subst e2
        exact ih (p + 1) _ (by omega) (by omega) (by omega) hd2 ((hf.s (by omega)).s (by omega)) (by rw [xi_ok (by omega), xi_ok (by omega), h12]) xi_same (fun z => by rw [xi_ok (by omega), xi_same, show p + 1 - p0 = p - p0 + 1 by omega]) hP
    · rw [cI_f c]
      rw [rnE_f c] at hP
      exact ⟨fun _ => fin p v hpn hp hf h12 h13 h14 hP, fun z => absurd rfl z⟩
theorem x_next {p0 : Nat} {P : XS → Prop} (hT : TXx a b n x0 K u) (hp0 : p0 ≤ n) (h13 : xi u x0 2 = nI p0) (hP : ∀ v, FRx x0 u v → TKx x0 v (tkA b n p0) → P v) : xw8_next x0 K u P := by
  have hn := hT.2.2.2.2.2.2.2.1
  have body : ∀ p v, p ≤ n → FRx x0 u v → xi v x0 1 = nI p → (∀ w, FRx x0 u w → TKx x0 w (tkB b n p) → P w) → xw8_next_B50 P K x0 v := by
    intro p v hp hf h1 hP
    unfold xw8_next_B50
    refine ⟨hT.1, fun u55 e55 u60 e60 => ?_⟩
    rw [h1] at e55
    subst e55
    have hf2 := (hf.s (k := 2) (x := nI p) (by omega)).s (k := 3) (x := nI 0) (by omega)
    have e60 : u60 = xsi (xsi v x0 2 (nI p)) x0 3 (nI 0) := e60
    have g1 : xi (xsi (xsi v x0 2 (nI p)) x0 3 (nI 0)) x0 1 = nI p := by rw [xi_ok (by omega), xi_ok (by omega), h1]
    have g2 : xi (xsi (xsi v x0 2 (nI p)) x0 3 (nI 0)) x0 2 = nI p := by rw [xi_ok (by omega), xi_same]
    have g3 : xi (xsi (xsi v x0 2 (nI p)) x0 3 (nI 0)) x0 3 = nI 0 := xi_same
    have hT3 := hT.fr hf2
    subst e60
    generalize xsi (xsi v x0 2 (nI p)) x0 3 (nI 0) = u3 at hf2 g1 g2 g3 hT3 ⊢
    rw [g1, hT3.2.1]
    by_cases hpn : n ≤ p
    · rw [tkB_0 hpn] at hP
      exact ⟨fun z => absurd z (by rw [n_lt_f hpn (by omega)]; exact id), fun _ => hP _ hf2 ⟨g3, g1, g2, fun z => (by cases z)⟩⟩
    · have hpn : p < n := by omega
      refine ⟨fun _ => x_wb hT3 (by omega) ?_, fun z => absurd (by rw [n_lt_t hpn (by omega)]; trivial) z⟩
      by_cases h1 : inR (b p) 97 122
      · rw [cI_t ⟨hpn, h1⟩]
        refine ⟨fun z => absurd z (by decide), fun _ w e => ?_⟩
        subst e
        refine ⟨_, x_nx91 hT (n - p) p _ (by omega) hp (hf2.s (by omega)) (by rw [xi_ok (by omega)]; exact g1) (by rw [xi_ok (by omega)]; exact g2) xi_same (fun w hw k3 k1 k2 => ?_)⟩
        rw [tkB_1 hpn h1] at hP
        exact hP w hw ⟨k3, k1, k2, fun z => (by cases z)⟩
      · rw [cI_f (fun z => h1 z.2)]
        refine ⟨fun _ => ?_, fun z => absurd rfl z⟩
        rw [g1]
        refine x_db hT3 (by omega) ?_
        by_cases h2 : inR (b p) 48 57
        · rw [cI_t ⟨hpn, h2⟩]
          refine ⟨fun z => absurd z (by decide), fun _ w e => ?_⟩
          subst e
          refine ⟨_, x_nx131 hT (n - p) p _ (by omega) hp (Nat.le_refl _) (fun j hj => by omega) (hf2.s (by omega)) (by rw [xi_ok (by omega)]; exact g1) (by rw [xi_ok (by omega)]; exact g2) (fun _ => by rw [xi_same, Nat.sub_self]; rfl) (fun w hw k3 k1 k2 k4 => ?_)⟩
          rw [tkB_2 hpn h2] at hP
          refine hP w hw ⟨?_, k1, k2, fun z => ?_⟩
          · rw [k3]
            show _ = nI (cI (dgE b n p - p ≤ 4) 2 4)
            unfold dgE
            by_cases c : rnE (fun q => inR (b q) 48 57) n (n - p) p - p ≤ 4
            · rw [cI_t c, cI_t c]
            · rw [cI_f c, cI_f c]
          · refine k4 ?_
            have z : cI (dgE b n p - p ≤ 4) 2 4 = 2 := z
            by_cases c : dgE b n p - p ≤ 4
            · exact c
            · rw [cI_f c] at z; omega
        · rw [cI_f (fun z => h2 z.2)]
          refine ⟨fun _ w e => ?_, fun z => absurd rfl z⟩
          rw [g1, li_1, nI_add] at e
          subst e
          have hf4 := hf2.s (k := 2) (x := nI (p + 1)) (by omega)
          have hT4 := hT.fr hf4
          have q1 : xi (xsi u3 x0 2 (nI (p + 1))) x0 1 = nI p := by rw [xi_ok (by omega)]; exact g1
          rw [tkB_3 hpn h1 h2] at hP
          refine ⟨a 0, hT4.2.2.1, hT.2.2.2.1, a 1, hT4.2.2.2.2.1, 900, hT.2.2.2.2.2.1, ?_⟩
          rw [q1]
          refine ⟨vp_in_nI (by omega) (by omega), ?_⟩
          rw [n_cl (by omega), hT4.2.2.2.2.2.2.1 p hpn]
          refine ⟨fun z w e => ?_, fun z w e => ?_⟩
          · have z : ¬ b p = nI 59 := z
            subst e
            rw [cI_f z] at hP
            exact hP _ (hf4.s (by omega)) ⟨xi_same, by rw [xi_ok (by omega)]; exact q1, by rw [xi_ok (by omega), xi_same]; rfl, fun z => (by cases z)⟩
          · have z : b p = nI 59 := z
            subst e
            rw [cI_t z] at hP
            exact hP _ (hf4.s (by omega)) ⟨xi_same, by rw [xi_ok (by omega)]; exact q1, by rw [xi_ok (by omega), xi_same]; rfl, fun z => (by cases z)⟩
  have key : ∀ f p v, n ≤ p + f → p ≤ n → FRx x0 u v → xi v x0 1 = nI p → (∀ w, FRx x0 u w → TKx x0 w (tkB b n (rnE (fun q => isB (b q)) n f p)) → P w) → xw8_next_L8 P K x0 (f + 1) v := by
    intro f
    induction f with
    | zero =>
      intro p v h1 hp hf h13 hP
      have hT2 := hT.fr hf
      rw [xw8_next_L8]
      show xw8_next_L8_S P K x0 _ v
      unfold xw8_next_L8_S
      rw [h13, hT2.2.1]
      exact ⟨hT.1, fun _ => body p v hp hf h13 hP, fun z => absurd (by rw [n_le_t (by omega) (by omega)]; trivial) z⟩
    | succ f ih =>
      intro p v h1 hp hf h13 hP
      have hT2 := hT.fr hf
      rw [xw8_next_L8]
      show xw8_next_L8_S P K x0 _ v
      unfold xw8_next_L8_S
      by_cases hpn : n ≤ p
      · rw [rnE_f (by omega)] at hP
        rw [h13, hT2.2.1]
        exact ⟨hT.1, fun _ => body p v hp hf h13 hP, fun z => absurd (by rw [n_le_t hpn (by omega)]; trivial) z⟩
      · rw [h13, hT2.2.1]
        refine ⟨hT.1, fun z => absurd z (by rw [n_le_f (by omega) (by omega)]; exact id), fun _ => ⟨a 0, hT2.2.2.1, hT.2.2.2.1, a 1, hT2.2.2.2.2.1, 900, hT.2.2.2.2.2.1, vp_in_nI (by omega) (by omega), ?_⟩⟩
        rw [n_cl (by omega), hT2.2.2.2.2.2.2.1 p (by omega), e_xs_isBlank]
        by_cases c : isB (b p)
        · rw [bI_t c]
          rw [rnE_t ⟨by omega, c⟩] at hP
          refine ⟨fun z => absurd z (by decide), fun _ w e => ?_⟩
          rw [li_1, nI_add] at e
          subst e
          exact ih (p + 1) _ (by omega) (by omega) (hf.s (by omega)) xi_same hP
        · rw [bI_f c]
          rw [rnE_f (fun z => c z.2)] at hP
          exact ⟨fun _ => body p v hp hf h13 hP, fun z => absurd rfl z⟩
  unfold xw8_next
  refine ⟨hT.1, fun u5 e5 => ?_⟩
  rw [h13] at e5
  subst e5
  exact ⟨_, key (n - p0) p0 _ (by omega) hp0 (FRx.refl.s (by omega)) xi_same hP⟩
end PRB
