/-! PLAIN LAW: press: tokens -/
set_option linter.unusedVariables false
/-- the end of a run -/
noncomputable def rnE (Pr : Nat → Prop) (n : Nat) : Nat → Nat → Nat
  | 0, p => p
  | f + 1, p => cI (p < n ∧ Pr p) (rnE Pr n f (p + 1)) p
theorem rnE_t {Pr : Nat → Prop} {n f p : Nat} (h : p < n ∧ Pr p) : rnE Pr n (f + 1) p = rnE Pr n f (p + 1) := by rw [rnE, cI_t h]
theorem rnE_f {Pr : Nat → Prop} {n p : Nat} (h : ¬ (p < n ∧ Pr p)) : ∀ f, rnE Pr n f p = p
  | 0 => rfl
  | f + 1 => by rw [rnE, cI_f h]
theorem rnE_ge {Pr : Nat → Prop} {n : Nat} : ∀ f p, p ≤ rnE Pr n f p
  | 0, p => Nat.le_refl _
  | f + 1, p => by
    by_cases h : p < n ∧ Pr p
    · rw [rnE_t h]; exact Nat.le_trans (Nat.le_succ p) (rnE_ge f (p + 1))
    · rw [rnE_f h]; exact Nat.le_refl _
theorem rnE_le {Pr : Nat → Prop} {n : Nat} : ∀ f p, p ≤ n → rnE Pr n f p ≤ n
  | 0, p, h => h
  | f + 1, p, h => by
    by_cases c : p < n ∧ Pr p
    · rw [rnE_t c]; exact rnE_le f (p + 1) c.1
    · rw [rnE_f c]; exact h
theorem rnE_in {Pr : Nat → Prop} {n : Nat} : ∀ f p q, p ≤ q → q < rnE Pr n f p → Pr q
  | 0, p, q, h1, h2 => by unfold rnE at h2; omega
  | f + 1, p, q, h1, h2 => by
    by_cases c : p < n ∧ Pr p
    · rw [rnE_t c] at h2
      by_cases e : q = p
      · rw [e]; exact c.2
      · exact rnE_in f (p + 1) q (by omega) h2
    · rw [rnE_f c] at h2; omega
/-- a token: from, end, kind (0 end, 1 word, 2 number, 3 sign, 4 broken), value -/
abbrev TK : Type := Nat × Nat × Nat × Nat
def tkf (t : TK) : Nat := t.1
def tke (t : TK) : Nat := t.2.1
def tkk (t : TK) : Nat := t.2.2.1
def tkv (t : TK) : Nat := t.2.2.2
def dgN (c : Int32) : Nat := (c - nI 48).toNatClampNeg
def vlN (b : Nat → Int32) (p : Nat) : Nat → Nat
  | 0 => 0
  | k + 1 => min 100000 (10 * vlN b p k + dgN (b (p + k)))
theorem dgN_le {c : Int32} (h : inR c 48 57) : dgN c ≤ 9 ∧ c = nI (48 + dgN c) := by
  obtain ⟨h1, h2⟩ := h
  rcases pl_ix c 58 with x | x | ⟨j, hj, rfl⟩
  · omega
  · omega
  · rw [n_toInt (by omega)] at h1
    unfold dgN
    rw [n_sub (by omega), n_cl (by omega)]
    exact ⟨by omega, by congr 1; omega⟩
theorem vlN_le {b : Nat → Int32} {p : Nat} : ∀ k, vlN b p k ≤ 100000
  | 0 => Nat.zero_le _
  | k + 1 => Nat.min_le_left _ _
theorem vlN_lt {b : Nat → Int32} {p : Nat} : ∀ k, k ≤ 4 → (∀ j, j < k → inR (b (p + j)) 48 57) → vlN b p k < 10 ^ k
  | 0, _, _ => by show 0 < 10 ^ 0; decide
  | k + 1, hk, hj => by
    have h1 := vlN_lt (b := b) (p := p) k (by omega) (fun j hj2 => hj j (by omega))
    have h2 := (dgN_le (hj k (by omega))).1
    have h3 : vlN b p (k + 1) ≤ 10 * vlN b p k + dgN (b (p + k)) := Nat.min_le_right _ _
    have h4 : 10 ^ (k + 1) = 10 * 10 ^ k := by rw [Nat.pow_succ, Nat.mul_comm]
    omega
theorem vlN_s {b : Nat → Int32} {p k : Nat} (hk : k < 4) (hj : ∀ j, j < k + 1 → inR (b (p + j)) 48 57) : vlN b p (k + 1) = 10 * vlN b p k + dgN (b (p + k)) := by
  have h1 := vlN_lt (b := b) (p := p) k (by omega) (fun j hj2 => hj j (by omega))
  have h2 := (dgN_le (hj k (by omega))).1
  have h4 : 10 ^ k ≤ 10 ^ 3 := Nat.pow_le_pow_right (by omega) (by omega)
  show min _ _ = _
  exact Nat.min_eq_right (by omega)
/-- a digit run's end -/
noncomputable def dgE (b : Nat → Int32) (n p : Nat) : Nat := rnE (fun q => inR (b q) 48 57) n (n - p) p
/-- a word's end -/
noncomputable def smE (b : Nat → Int32) (n p : Nat) : Nat := rnE (fun q => inR (b q) 97 122) n (n - p) p
noncomputable def tkB (b : Nat → Int32) (n p : Nat) : TK :=
  cI (n ≤ p) (p, p, 0, 0) (cI (inR (b p) 97 122) (p, smE b n p, 1, 0) (cI (inR (b p) 48 57) (p, dgE b n p, cI (dgE b n p - p ≤ 4) 2 4, vlN b p (dgE b n p - p)) (p, p + 1, cI (b p = nI 59) 3 4, 0)))
theorem tkB_0 {b : Nat → Int32} {n p : Nat} (h : n ≤ p) : tkB b n p = (p, p, 0, 0) := cI_t h
theorem tkB_1 {b : Nat → Int32} {n p : Nat} (h : p < n) (h1 : inR (b p) 97 122) : tkB b n p = (p, smE b n p, 1, 0) := by unfold tkB; rw [cI_f (by omega), cI_t h1]
theorem tkB_2 {b : Nat → Int32} {n p : Nat} (h : p < n) (h1 : inR (b p) 48 57) : tkB b n p = (p, dgE b n p, cI (dgE b n p - p ≤ 4) 2 4, vlN b p (dgE b n p - p)) := by unfold tkB; rw [cI_f (by omega), cI_f (by omega), cI_t h1]
theorem tkB_3 {b : Nat → Int32} {n p : Nat} (h : p < n) (h1 : ¬ inR (b p) 97 122) (h2 : ¬ inR (b p) 48 57) : tkB b n p = (p, p + 1, cI (b p = nI 59) 3 4, 0) := by unfold tkB; rw [cI_f (by omega), cI_f h1, cI_f h2]
/-- the token from a place on -/
noncomputable def tkA (b : Nat → Int32) (n p : Nat) : TK := tkB b n (rnE (fun q => isB (b q)) n (n - p) p)
/-- a token of a text -/
def TKw (b : Nat → Int32) (n : Nat) (t : TK) : Prop :=
  tkf t ≤ tke t ∧ tke t ≤ n ∧ (tkk t ≠ 0 → tkf t < tke t) ∧ tkk t ≤ 4 ∧ (tkk t = 1 → ∀ q, tkf t ≤ q → q < tke t → inR (b q) 97 122) ∧ (tkk t = 2 → tkv t < 10000) ∧ (tkk t = 0 → n ≤ tkf t)
theorem tkB_w {b : Nat → Int32} {n p : Nat} (hp : p ≤ n) : TKw b n (tkB b n p) := by
  by_cases h : n ≤ p
  · rw [tkB_0 h]
    exact ⟨Nat.le_refl _, hp, fun z => absurd rfl z, Nat.zero_le _, fun z => (by cases z), fun z => (by cases z), fun _ => h⟩
  · have h : p < n := by omega
    by_cases h1 : inR (b p) 97 122
    · rw [tkB_1 h h1]
      obtain ⟨g, hg⟩ : ∃ g, n - p = g + 1 := ⟨n - p - 1, by omega⟩
      have e : smE b n p = rnE (fun q => inR (b q) 97 122) n g (p + 1) := by unfold smE; rw [hg, rnE_t ⟨h, h1⟩]
      have e1 := rnE_ge (Pr := fun q => inR (b q) 97 122) (n := n) g (p + 1)
      have e2 : smE b n p ≤ n := rnE_le _ _ hp
      exact ⟨by show p ≤ smE b n p; omega, e2, fun _ => by show p < smE b n p; omega, by show 1 ≤ 4; omega, fun _ q h3 h4 => rnE_in (Pr := fun q => inR (b q) 97 122) _ _ q h3 h4, fun z => (by cases z), fun z => (by cases z)⟩
    · by_cases h2 : inR (b p) 48 57
      · rw [tkB_2 h h2]
        obtain ⟨g, hg⟩ : ∃ g, n - p = g + 1 := ⟨n - p - 1, by omega⟩
        have e : dgE b n p = rnE (fun q => inR (b q) 48 57) n g (p + 1) := by unfold dgE; rw [hg, rnE_t ⟨h, h2⟩]
        have e1 := rnE_ge (Pr := fun q => inR (b q) 48 57) (n := n) g (p + 1)
        have e2 : dgE b n p ≤ n := rnE_le _ _ hp
        have e3 : ∀ q, p ≤ q → q < dgE b n p → inR (b q) 48 57 := fun q h3 h4 => rnE_in (Pr := fun q => inR (b q) 48 57) _ _ q h3 h4
        rw [← e] at e1
        clear e
        generalize dgE b n p = e at e1 e2 e3
        by_cases c : e - p ≤ 4
        · rw [cI_t c]
          have hv := vlN_lt (b := b) (p := p) (e - p) c (fun j hj => e3 (p + j) (by omega) (by omega))
          have h4 : 10 ^ (e - p) ≤ 10 ^ 4 := Nat.pow_le_pow_right (by omega) c
          exact ⟨by show p ≤ e; omega, e2, fun _ => by show p < e; omega, by show 2 ≤ 4; omega, fun z => (by cases z), fun _ => by show vlN b p (e - p) < 10000; omega, fun z => (by cases z)⟩
        · rw [cI_f c]
          exact ⟨by show p ≤ e; omega, e2, fun _ => by show p < e; omega, by show 4 ≤ 4; omega, fun z => (by cases z), fun z => (by cases z), fun z => (by cases z)⟩
      · rw [tkB_3 h h1 h2]
        by_cases c : b p = nI 59
        · rw [cI_t c]
          exact ⟨by show p ≤ p + 1; omega, by show p + 1 ≤ n; omega, fun _ => by show p < p + 1; omega, by show 3 ≤ 4; omega, fun z => (by cases z), fun z => (by cases z), fun z => (by cases z)⟩
        · rw [cI_f c]
          exact ⟨by show p ≤ p + 1; omega, by show p + 1 ≤ n; omega, fun _ => by show p < p + 1; omega, by show 4 ≤ 4; omega, fun z => (by cases z), fun z => (by cases z), fun z => (by cases z)⟩
theorem tkA_w {b : Nat → Int32} {n p : Nat} (hp : p ≤ n) : TKw b n (tkA b n p) := tkB_w (rnE_le _ _ hp)
/-! bytes that are shown as 0 to 255 -/
theorem ub_1 : ∀ j : Fin 128, (nI j.val &&& nI 255) = nI j.val := by decide +kernel
theorem ub_2 : ∀ j : Fin 128, ((nI (128 + j.val) - nI 256) &&& nI 255) = nI (128 + j.val) := by decide +kernel
theorem ub_c {c : Int32} (h : inR c (-128) 127) : (∃ j, j < 128 ∧ c = nI j ∧ (c &&& nI 255) = nI j) ∨ (∃ j, 128 ≤ j ∧ j < 256 ∧ c.toInt < 0 ∧ (c &&& nI 255) = nI j) := by
  obtain ⟨h1, h2⟩ := h
  rcases pl_ix c 128 with x | x | ⟨j, hj, rfl⟩
  · refine Or.inr ⟨(c.toInt + 256).toNat, by omega, by omega, x, ?_⟩
    have e : c = nI (128 + (c.toInt + 128).toNat) - nI 256 := by
      rw [← Int32.toInt_inj]
      have e1 := n_toInt (a := 128 + (c.toInt + 128).toNat) (by omega)
      have e2 := n_toInt (a := 256) (by omega)
      rw [Int32.toInt_sub, e1, e2, Int.bmod_def]
      omega
    have := ub_2 ⟨(c.toInt + 128).toNat, by omega⟩
    rw [show (c.toInt + 256).toNat = 128 + (c.toInt + 128).toNat by omega, ← this]
    exact congrArg (· &&& nI 255) e
  · omega
  · exact Or.inl ⟨j, hj, rfl, ub_1 ⟨j, hj⟩⟩
theorem ub_r {c : Int32} (h : inR c (-128) 127) {x y : Int} (hx : 0 ≤ x ∧ y < 128) : inR (c &&& nI 255) x y ↔ inR c x y := by
  rcases ub_c h with ⟨j, h1, h2, h3⟩ | ⟨j, h1, h2, h3, h4⟩
  · rw [h3, h2]
  · rw [h4]
    unfold inR
    rw [n_toInt (by omega)]
    omega
theorem ub_e {c : Int32} (h : inR c (-128) 127) {x : Nat} (hx : x < 128) : (c &&& nI 255) = nI x ↔ c = nI x := by
  rcases ub_c h with ⟨j, h1, h2, h3⟩ | ⟨j, h1, h2, h3, h4⟩
  · rw [h3, h2]
  · rw [h4]
    constructor
    · intro z
      have := (nI_eq (by omega) (by omega)).mp z
      omega
    · intro z
      rw [z, n_toInt (by omega)] at h3
      omega
theorem ub_m {c : Int32} (h : inR c (-128) 127) : ¬ (c &&& nI 255) = iM := by
  rcases ub_c h with ⟨j, h1, h2, h3⟩ | ⟨j, h1, h2, h3, h4⟩
  · rw [h3, n_eqM (by omega)]; exact id
  · rw [h4, n_eqM (by omega)]; exact id
