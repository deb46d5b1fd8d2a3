/-! PLAIN LAW 0: numbers, control, loops -/
set_option linter.unusedVariables false
theorem li_0 : (0 : Int32) = nI 0 := rfl
theorem li_1 : (1 : Int32) = nI 1 := rfl
theorem li_2 : (2 : Int32) = nI 2 := rfl
theorem li_3 : (3 : Int32) = nI 3 := rfl
theorem li_4 : (4 : Int32) = nI 4 := rfl
theorem li_5 : (5 : Int32) = nI 5 := rfl
theorem li_6 : (6 : Int32) = nI 6 := rfl
theorem li_7 : (7 : Int32) = nI 7 := rfl
theorem li_8 : (8 : Int32) = nI 8 := rfl
theorem li_9 : (9 : Int32) = nI 9 := rfl
theorem li_10 : (10 : Int32) = nI 10 := rfl
theorem li_11 : (11 : Int32) = nI 11 := rfl
theorem li_12 : (12 : Int32) = nI 12 := rfl
theorem li_16 : (16 : Int32) = nI 16 := rfl
theorem li_20 : (20 : Int32) = nI 20 := rfl
theorem li_24 : (24 : Int32) = nI 24 := rfl
theorem li_25 : (25 : Int32) = nI 25 := rfl
theorem li_26 : (26 : Int32) = nI 26 := rfl
theorem li_30 : (30 : Int32) = nI 30 := rfl
theorem li_31 : (31 : Int32) = nI 31 := rfl
theorem li_32 : (32 : Int32) = nI 32 := rfl
theorem li_40 : (40 : Int32) = nI 40 := rfl
theorem li_48 : (48 : Int32) = nI 48 := rfl
theorem li_49 : (49 : Int32) = nI 49 := rfl
theorem li_57 : (57 : Int32) = nI 57 := rfl
theorem li_59 : (59 : Int32) = nI 59 := rfl
theorem li_60 : (60 : Int32) = nI 60 := rfl
theorem li_63 : (63 : Int32) = nI 63 := rfl
theorem li_64 : (64 : Int32) = nI 64 := rfl
theorem li_65 : (65 : Int32) = nI 65 := rfl
theorem li_90 : (90 : Int32) = nI 90 := rfl
theorem li_96 : (96 : Int32) = nI 96 := rfl
theorem li_97 : (97 : Int32) = nI 97 := rfl
theorem li_106 : (106 : Int32) = nI 106 := rfl
theorem li_122 : (122 : Int32) = nI 122 := rfl
theorem li_255 : (255 : Int32) = nI 255 := rfl
theorem li_300 : (300 : Int32) = nI 300 := rfl
theorem li_600 : (600 : Int32) = nI 600 := rfl
theorem li_800 : (800 : Int32) = nI 800 := rfl
theorem li_900 : (900 : Int32) = nI 900 := rfl
theorem li_1850 : (1850 : Int32) = nI 1850 := rfl
theorem li_2000 : (2000 : Int32) = nI 2000 := rfl
theorem li_2010 : (2010 : Int32) = nI 2010 := rfl
theorem li_2040 : (2040 : Int32) = nI 2040 := rfl
theorem li_2801 : (2801 : Int32) = nI 2801 := rfl
theorem li_3300 : (3300 : Int32) = nI 3300 := rfl
theorem li_4161 : (4161 : Int32) = nI 4161 := rfl
theorem li_9999 : (9999 : Int32) = nI 9999 := rfl
theorem li_10163 : (10163 : Int32) = nI 10163 := rfl
theorem li_16500 : (16500 : Int32) = nI 16500 := rfl
theorem li_16800 : (16800 : Int32) = nI 16800 := rfl
theorem li_17100 : (17100 : Int32) = nI 17100 := rfl
theorem li_18350 : (18350 : Int32) = nI 18350 := rfl
theorem li_18510 : (18510 : Int32) = nI 18510 := rfl
theorem li_18540 : (18540 : Int32) = nI 18540 := rfl
theorem li_65536 : (65536 : Int32) = nI 65536 := rfl
theorem li_100000 : (100000 : Int32) = nI 100000 := rfl
theorem li_999999 : (999999 : Int32) = nI 999999 := rfl
theorem li_1000000 : (1000000 : Int32) = nI 1000000 := rfl
theorem li_2147483647 : (2147483647 : Int32) = nI 2147483647 := rfl
def iM : Int32 := -1
def iM8 : Int32 := -8
theorem im_1 : -(nI 1) = iM := rfl
theorem im_8 : -(nI 8) = iM8 := rfl
theorem fb_rng' (x : Int32) : -2147483648 ≤ x.toInt ∧ x.toInt < 2147483648 := by
  have h1 := Int32.le_toInt x
  have h2 := Int32.toInt_lt x
  omega
theorem n_le_t {a b : Nat} (h : a ≤ b) (hb : b < 2147483648) : (nI a ≤ nI b) = True := eq_true (nI_le h (by omega))
theorem n_le_f {a b : Nat} (h : b < a) (ha : a < 2147483648) : (nI a ≤ nI b) = False := eq_false (nI_ge h (by omega))
theorem n_lt_t {a b : Nat} (h : a < b) (hb : b < 2147483648) : (nI a < nI b) = True := eq_true (nI_lt h (by omega))
theorem n_lt_f {a b : Nat} (h : b ≤ a) (ha : a < 2147483648) : (nI a < nI b) = False := eq_false (nI_nlt h (by omega))
theorem n_eq_t {a b : Nat} (h : a = b) : (nI a = nI b) = True := eq_true (by rw [h])
theorem n_eq_f {a b : Nat} (h : a ≠ b) (ha : a < 2147483648) (hb : b < 2147483648) : (nI a = nI b) = False := eq_false (fun q => h ((nI_eq (by omega) (by omega)).mp q))
theorem n_toInt {a : Nat} (ha : a < 2147483648) : (nI a).toInt = (a : Int) := nI_toInt (by omega)
theorem n_cl {a : Nat} (ha : a < 2147483648) : (nI a).toNatClampNeg = a := nI_clamp (by omega)
theorem n_vp {a n : Nat} (h : a < n) (hn : n < 2147483648) : vp_in (nI a) n = True := eq_true (vp_in_nI h (by omega))
theorem iM_toInt : iM.toInt = -1 := by decide
theorem n_eqM {a : Nat} (ha : a < 2147483648) : (nI a = iM) = False := eq_false (fun q => by have := congrArg Int32.toInt q; rw [n_toInt ha, iM_toInt] at this; omega)
theorem M_eqn {a : Nat} (ha : a < 2147483648) : (iM = nI a) = False := eq_false (fun q => by have := congrArg Int32.toInt q; rw [n_toInt ha, iM_toInt] at this; omega)
theorem n_leM {a : Nat} (ha : a < 2147483648) : (nI a ≤ iM) = False := eq_false (fun q => by rw [Int32.le_iff_toInt_le, n_toInt ha, iM_toInt] at q; omega)
theorem n_ltM {a : Nat} (ha : a < 2147483648) : (nI a < iM) = False := eq_false (fun q => by rw [Int32.lt_iff_toInt_lt, n_toInt ha, iM_toInt] at q; omega)
theorem M_len {a : Nat} (ha : a < 2147483648) : (iM ≤ nI a) = True := eq_true (by rw [Int32.le_iff_toInt_le, n_toInt ha, iM_toInt]; omega)
theorem M_ltn {a : Nat} (ha : a < 2147483648) : (iM < nI a) = True := eq_true (by rw [Int32.lt_iff_toInt_lt, n_toInt ha, iM_toInt]; omega)
theorem M_add {a : Nat} (h : 1 ≤ a) : nI a + iM = nI (a - 1) := by
  obtain ⟨b, rfl⟩ : ∃ b, a = b + 1 := ⟨a - 1, by omega⟩
  exact pk_m1 b
theorem n_sub {a b : Nat} (h : b ≤ a) : nI a - nI b = nI (a - b) := pk_sub h
/-- a number that is only known by its value -/
theorem x_lt_t {x : Int32} {a : Nat} (ha : a < 2147483648) (h : x.toInt < a) : (x < nI a) = True := eq_true (by rw [Int32.lt_iff_toInt_lt, n_toInt ha]; exact h)
theorem x_lt_f {x : Int32} {a : Nat} (ha : a < 2147483648) (h : (a : Int) ≤ x.toInt) : (x < nI a) = False := eq_false (by rw [Int32.lt_iff_toInt_lt, n_toInt ha]; omega)
theorem x_le_t {x : Int32} {a : Nat} (ha : a < 2147483648) (h : x.toInt ≤ a) : (x ≤ nI a) = True := eq_true (by rw [Int32.le_iff_toInt_le, n_toInt ha]; exact h)
theorem x_le_f {x : Int32} {a : Nat} (ha : a < 2147483648) (h : (a : Int) < x.toInt) : (x ≤ nI a) = False := eq_false (by rw [Int32.le_iff_toInt_le, n_toInt ha]; omega)
theorem lt_x_t {x : Int32} {a : Nat} (ha : a < 2147483648) (h : (a : Int) < x.toInt) : (nI a < x) = True := eq_true (by rw [Int32.lt_iff_toInt_lt, n_toInt ha]; exact h)
theorem lt_x_f {x : Int32} {a : Nat} (ha : a < 2147483648) (h : x.toInt ≤ a) : (nI a < x) = False := eq_false (by rw [Int32.lt_iff_toInt_lt, n_toInt ha]; omega)
theorem le_x_t {x : Int32} {a : Nat} (ha : a < 2147483648) (h : (a : Int) ≤ x.toInt) : (nI a ≤ x) = True := eq_true (by rw [Int32.le_iff_toInt_le, n_toInt ha]; exact h)
theorem le_x_f {x : Int32} {a : Nat} (ha : a < 2147483648) (h : x.toInt < a) : (nI a ≤ x) = False := eq_false (by rw [Int32.le_iff_toInt_le, n_toInt ha]; omega)
theorem x_eq_f {x : Int32} {a : Nat} (ha : a < 2147483648) (h : x.toInt ≠ a) : (x = nI a) = False := eq_false (fun q => h (by rw [q, n_toInt ha]))
theorem pl_ix (x : Int32) (n : Nat) : x.toInt < 0 ∨ (n : Int) ≤ x.toInt ∨ ∃ j : Nat, j < n ∧ x = nI j := by
  rcases Int.lt_or_le x.toInt 0 with h | h
  · exact Or.inl h
  · rcases Int.lt_or_le x.toInt n with h2 | h2
    · refine Or.inr (Or.inr ⟨x.toInt.toNat, by omega, ?_⟩)
      have hr := fb_rng' x
      rw [← Int32.toInt_inj, n_toInt (by omega)]; omega
    · exact Or.inr (Or.inl h2)
theorem l_cmp_lt (a b : Int64) : (lg_cmp a b < 0) = (a.toInt < b.toInt) := by
  unfold lg_cmp
  by_cases h : a > b
  · have h1 : b.toInt < a.toInt := Int64.lt_iff_toInt_lt.mp h
    rw [if_pos h]; exact propext ⟨fun q => absurd q (by decide), fun q => by omega⟩
  · rw [if_neg h]
    have h1 : ¬ b.toInt < a.toInt := fun q => h (Int64.lt_iff_toInt_lt.mpr q)
    by_cases h2 : a = b
    · subst h2; rw [if_pos rfl]; exact propext ⟨fun q => absurd q (by decide), fun q => by omega⟩
    · rw [if_neg h2]
      have h3 : a.toInt ≠ b.toInt := fun q => h2 (Int64.toInt_inj.mp q)
      exact propext ⟨fun _ => by omega, fun _ => by decide⟩
theorem l_cmp_gt (a b : Int64) : (0 < lg_cmp a b) = (b.toInt < a.toInt) := by
  unfold lg_cmp
  by_cases h : a > b
  · have h1 : b.toInt < a.toInt := Int64.lt_iff_toInt_lt.mp h
    rw [if_pos h]; exact propext ⟨fun _ => h1, fun _ => by decide⟩
  · rw [if_neg h]
    have h1 : ¬ b.toInt < a.toInt := fun q => h (Int64.lt_iff_toInt_lt.mpr q)
    by_cases h2 : a = b
    · subst h2; rw [if_pos rfl]; exact propext ⟨fun q => absurd q (by decide), fun q => by omega⟩
    · rw [if_neg h2]; exact propext ⟨fun q => absurd q (by decide), fun q => absurd q h1⟩

/-- loops -/
def it {α : Type} (f : Nat → α → α) (a : α) : Nat → α
  | 0 => a
  | k + 1 => f k (it f a k)
theorem it_0 {α : Type} (f : Nat → α → α) (a : α) : it f a 0 = a := rfl
theorem it_s {α : Type} (f : Nat → α → α) (a : α) (k : Nat) : it f a (k + 1) = f k (it f a k) := rfl
theorem it_cong {α : Type} {f g : Nat → α → α} {a : α} : ∀ n : Nat, (∀ k b, k < n → f k b = g k b) → it f a n = it g a n
  | 0, _ => rfl
  | n + 1, h => by rw [it_s, it_s, it_cong n (fun k b hk => h k b (by omega)), h n _ (by omega)]
theorem lp_for (P : Nat → Nat → Prop) (N : Nat) (he : ∀ n, P (n + 1) N) (hs : ∀ n k, k < N → P n (k + 1) → P (n + 1) k) : ∀ d k, k + d = N → P (d + 1) k
  | 0, k, h => by
    have : k = N := by omega
    subst this; exact he 0
  | d + 1, k, h => hs (d + 1) k (by omega) (lp_for P N he hs d (k + 1) (by omega))
theorem lp_up (P : Nat → Nat → Prop) (N : Nat) (k : Nat) (hk : k ≤ N) (he : ∀ n, P (n + 1) N) (hs : ∀ n k, k < N → P n (k + 1) → P (n + 1) k) : ∃ n, P n k := ⟨N - k + 1, lp_for P N he hs (N - k) k (by omega)⟩
theorem lp_mea {σ : Type} (P : Nat → σ → Prop) (μ : σ → Nat) (hs : ∀ n s, (∀ s2, μ s2 < μ s → P n s2) → P (n + 1) s) : ∀ m n s, μ s < m → m ≤ n → P n s
  | 0, n, s, h, _ => absurd h (by omega)
  | m + 1, n, s, h, hn => by
    obtain ⟨q, rfl⟩ : ∃ q, n = q + 1 := ⟨n - 1, by omega⟩
    exact hs q s (fun s2 h2 => lp_mea P μ hs m q s2 (by omega) (by omega))
theorem lp_m {σ : Type} (P : Nat → σ → Prop) (μ : σ → Nat) (s : σ) (hs : ∀ n s, (∀ s2, μ s2 < μ s → P n s2) → P (n + 1) s) : ∃ n, P n s := ⟨μ s + 1, lp_mea P μ hs (μ s + 1) (μ s + 1) s (by omega) (by omega)⟩
/-- control -/
theorem br_if {c A B : Prop} : ((c → A) ∧ (¬ c → B)) ↔ ((c ∧ A) ∨ (¬ c ∧ B)) := by
  by_cases h : c <;> simp [h]
theorem br_n {c A B : Prop} (h1 : ¬ c → A) (h2 : c → B) : (¬ c → A) ∧ (c → B) := ⟨h1, h2⟩
theorem ite_t {α : Sort _} {c : Prop} [Decidable c] {a b : α} (h : c) : ite c a b = a := if_pos h
theorem ite_f {α : Sort _} {c : Prop} [Decidable c] {a b : α} (h : ¬ c) : ite c a b = b := if_neg h
/-- the reference's memory -/
theorem jm_same {u : MS} {b k : Nat} {v : Int32} : jm_i (jm_s u b k v) b k = v := by simp [jm_i, jm_s]
theorem jm_ob {u : MS} {b k b2 k2 : Nat} {v : Int32} (h : b2 ≠ b) : jm_i (jm_s u b k v) b2 k2 = jm_i u b2 k2 := by simp [jm_i, jm_s, h]
theorem jm_ok {u : MS} {b k b2 k2 : Nat} {v : Int32} (h : k2 ≠ k) : jm_i (jm_s u b k v) b2 k2 = jm_i u b2 k2 := by simp [jm_i, jm_s, h]
theorem jm_il {u : MS} {b k b2 k2 : Nat} {v : Int64} : jm_i (jm_sl u b k v) b2 k2 = jm_i u b2 k2 := rfl
theorem jm_li {u : MS} {b k b2 k2 : Nat} {v : Int32} : jm_l (jm_s u b k v) b2 k2 = jm_l u b2 k2 := rfl
theorem jm_lsame {u : MS} {b k : Nat} {v : Int64} : jm_l (jm_sl u b k v) b k = v := by simp [jm_l, jm_sl]
theorem jm_lob {u : MS} {b k b2 k2 : Nat} {v : Int64} (h : b2 ≠ b) : jm_l (jm_sl u b k v) b2 k2 = jm_l u b2 k2 := by simp [jm_l, jm_sl, h]
theorem jm_lok {u : MS} {b k b2 k2 : Nat} {v : Int64} (h : k2 ≠ k) : jm_l (jm_sl u b k v) b2 k2 = jm_l u b2 k2 := by simp [jm_l, jm_sl, h]
/-- the component's memory -/
theorem xi_same {u : XS} {a j : Nat} {v : Int32} : xi (xsi u a j v) a j = v := by simp [xi, xsi]
theorem xi_oa (ow : Nat → Nat) {u : XS} {a b j k : Nat} {v : Int32} (h : ow b ≠ ow a) : xi (xsi u a j v) b k = xi u b k := by
  have : b ≠ a := fun e => h (by rw [e])
  simp [xi, xsi, this]
theorem xi_ok {u : XS} {a b j k : Nat} {v : Int32} (h : k ≠ j) : xi (xsi u a j v) b k = xi u b k := by simp [xi, xsi, h]
theorem xi_r {u : XS} {a j b k : Nat} {v : Option Nat} : xi (xsr u a j v) b k = xi u b k := rfl
theorem xi_l {u : XS} {a j b k : Nat} {v : Int64} : xi (xsl u a j v) b k = xi u b k := rfl
theorem xl_i {u : XS} {a j b k : Nat} {v : Int32} : xl (xsi u a j v) b k = xl u b k := rfl
theorem xl_r {u : XS} {a j b k : Nat} {v : Option Nat} : xl (xsr u a j v) b k = xl u b k := rfl
theorem xr_i {u : XS} {a j b k : Nat} {v : Int32} : xr (xsi u a j v) b k = xr u b k := rfl
theorem xr_l {u : XS} {a j b k : Nat} {v : Int64} : xr (xsl u a j v) b k = xr u b k := rfl
theorem xr_same {u : XS} {a j : Nat} {v : Option Nat} : xr (xsr u a j v) a j = v := by simp [xr, xsr]
theorem xr_oa (ow : Nat → Nat) {u : XS} {a b j k : Nat} {v : Option Nat} (h : ow b ≠ ow a) : xr (xsr u a j v) b k = xr u b k := by
  have : b ≠ a := fun e => h (by rw [e])
  simp [xr, xsr, this]
theorem xr_ok {u : XS} {a b j k : Nat} {v : Option Nat} (h : k ≠ j) : xr (xsr u a j v) b k = xr u b k := by simp [xr, xsr, h]
theorem xl_same {u : XS} {a j : Nat} {v : Int64} : xl (xsl u a j v) a j = v := by simp [xl, xsl]
theorem xl_oa (ow : Nat → Nat) {u : XS} {a b j k : Nat} {v : Int64} (h : ow b ≠ ow a) : xl (xsl u a j v) b k = xl u b k := by
  have : b ≠ a := fun e => h (by rw [e])
  simp [xl, xsl, this]
theorem xl_ok {u : XS} {a b j k : Nat} {v : Int64} (h : k ≠ j) : xl (xsl u a j v) b k = xl u b k := by simp [xl, xsl, h]

/-- small methods as equations -/
def bI (c : Prop) [Decidable c] : Int32 := if c then nI 1 else nI 0
theorem bI_0 {c : Prop} [Decidable c] : (bI c = nI 0) = ¬ c := by
  unfold bI; by_cases h : c <;> simp [h] <;> decide
theorem bI_t {c : Prop} [Decidable c] (h : c) : bI c = nI 1 := if_pos h
theorem bI_f {c : Prop} [Decidable c] (h : ¬ c) : bI c = nI 0 := if_neg h
abbrev inR (x : Int32) (a b : Int) : Prop := a ≤ x.toInt ∧ x.toInt ≤ b

theorem e_mw_isSmall (x : Int32) (P : Int32 → Prop) : mw_isSmall x P = P (bI (inR x 97 122)) := by
  unfold mw_isSmall
  simp only [li_0,li_1,li_97,li_122]
  rcases pl_ix x 97 with h | h | ⟨j, h, rfl⟩
  · have h0 : ¬ inR x 97 122 := by unfold inR; omega
    simp (disch := omega) only [x_lt_t, bI_f h0]; simp
  · by_cases h2 : x.toInt ≤ 122
    · have h0 : inR x 97 122 := by unfold inR; omega
      simp (disch := omega) only [x_lt_f, lt_x_f, bI_t h0]; simp
    · have h0 : ¬ inR x 97 122 := by unfold inR; omega
      simp (disch := omega) only [x_lt_f, lt_x_t, bI_f h0]; simp
  · have h0 : ¬ inR (nI j) 97 122 := by unfold inR; rw [n_toInt (by omega)]; omega
    simp (disch := omega) only [n_lt_t, bI_f h0]; simp
theorem e_mw_isDigit (x : Int32) (P : Int32 → Prop) : mw_isDigit x P = P (bI (inR x 48 57)) := by
  unfold mw_isDigit
  simp only [li_0,li_1,li_48,li_57]
  rcases pl_ix x 48 with h | h | ⟨j, h, rfl⟩
  · have h0 : ¬ inR x 48 57 := by unfold inR; omega
    simp (disch := omega) only [x_lt_t, bI_f h0]; simp
  · by_cases h2 : x.toInt ≤ 57
    · have h0 : inR x 48 57 := by unfold inR; omega
      simp (disch := omega) only [x_lt_f, lt_x_f, bI_t h0]; simp
    · have h0 : ¬ inR x 48 57 := by unfold inR; omega
      simp (disch := omega) only [x_lt_f, lt_x_t, bI_f h0]; simp
  · have h0 : ¬ inR (nI j) 48 57 := by unfold inR; rw [n_toInt (by omega)]; omega
    simp (disch := omega) only [n_lt_t, bI_f h0]; simp
theorem e_mw_isDigit0 (x : Int32) (P : Int32 → Prop) : mw_isDigit0 x P = P (bI (inR x 48 57)) := by
  unfold mw_isDigit0
  simp only [li_0,li_1,li_48,li_57]
  rcases pl_ix x 48 with h | h | ⟨j, h, rfl⟩
  · have h0 : ¬ inR x 48 57 := by unfold inR; omega
    simp (disch := omega) only [x_lt_t, bI_f h0]; simp
  · by_cases h2 : x.toInt ≤ 57
    · have h0 : inR x 48 57 := by unfold inR; omega
      simp (disch := omega) only [x_lt_f, lt_x_f, bI_t h0]; simp
    · have h0 : ¬ inR x 48 57 := by unfold inR; omega
      simp (disch := omega) only [x_lt_f, lt_x_t, bI_f h0]; simp
  · have h0 : ¬ inR (nI j) 48 57 := by unfold inR; rw [n_toInt (by omega)]; omega
    simp (disch := omega) only [n_lt_t, bI_f h0]; simp
theorem e_mw_isGreat (x : Int32) (P : Int32 → Prop) : mw_isGreat x P = P (bI (inR x 65 90)) := by
  unfold mw_isGreat
  simp only [li_0,li_1,li_65,li_90]
  rcases pl_ix x 65 with h | h | ⟨j, h, rfl⟩
  · have h0 : ¬ inR x 65 90 := by unfold inR; omega
    simp (disch := omega) only [x_lt_t, bI_f h0]; simp
  · by_cases h2 : x.toInt ≤ 90
    · have h0 : inR x 65 90 := by unfold inR; omega
      simp (disch := omega) only [x_lt_f, lt_x_f, bI_t h0]; simp
    · have h0 : ¬ inR x 65 90 := by unfold inR; omega
      simp (disch := omega) only [x_lt_f, lt_x_t, bI_f h0]; simp
  · have h0 : ¬ inR (nI j) 65 90 := by unfold inR; rw [n_toInt (by omega)]; omega
    simp (disch := omega) only [n_lt_t, bI_f h0]; simp
theorem e_xs_isSmall (x : Int32) (P : Int32 → Prop) : xs_isSmall x P = P (bI (inR x 97 122)) := by
  unfold xs_isSmall
  simp only [li_0,li_1,li_97,li_122]
  rcases pl_ix x 97 with h | h | ⟨j, h, rfl⟩
  · have h0 : ¬ inR x 97 122 := by unfold inR; omega
    simp (disch := omega) only [x_lt_t, bI_f h0]; simp
  · by_cases h2 : x.toInt ≤ 122
    · have h0 : inR x 97 122 := by unfold inR; omega
      simp (disch := omega) only [x_lt_f, lt_x_f, bI_t h0]; simp
    · have h0 : ¬ inR x 97 122 := by unfold inR; omega
      simp (disch := omega) only [x_lt_f, lt_x_t, bI_f h0]; simp
  · have h0 : ¬ inR (nI j) 97 122 := by unfold inR; rw [n_toInt (by omega)]; omega
    simp (disch := omega) only [n_lt_t, bI_f h0]; simp
theorem e_xs_isFigure (x : Int32) (P : Int32 → Prop) : xs_isFigure x P = P (bI (inR x 48 57)) := by
  unfold xs_isFigure
  simp only [li_0,li_1,li_48,li_57]
  rcases pl_ix x 48 with h | h | ⟨j, h, rfl⟩
  · have h0 : ¬ inR x 48 57 := by unfold inR; omega
    simp (disch := omega) only [x_lt_t, bI_f h0]; simp
  · by_cases h2 : x.toInt ≤ 57
    · have h0 : inR x 48 57 := by unfold inR; omega
      simp (disch := omega) only [x_lt_f, lt_x_f, bI_t h0]; simp
    · have h0 : ¬ inR x 48 57 := by unfold inR; omega
      simp (disch := omega) only [x_lt_f, lt_x_t, bI_f h0]; simp
  · have h0 : ¬ inR (nI j) 48 57 := by unfold inR; rw [n_toInt (by omega)]; omega
    simp (disch := omega) only [n_lt_t, bI_f h0]; simp
theorem e_xs_isGreat (x : Int32) (P : Int32 → Prop) : xs_isGreat x P = P (bI (inR x 65 90)) := by
  unfold xs_isGreat
  simp only [li_0,li_1,li_65,li_90]
  rcases pl_ix x 65 with h | h | ⟨j, h, rfl⟩
  · have h0 : ¬ inR x 65 90 := by unfold inR; omega
    simp (disch := omega) only [x_lt_t, bI_f h0]; simp
  · by_cases h2 : x.toInt ≤ 90
    · have h0 : inR x 65 90 := by unfold inR; omega
      simp (disch := omega) only [x_lt_f, lt_x_f, bI_t h0]; simp
    · have h0 : ¬ inR x 65 90 := by unfold inR; omega
      simp (disch := omega) only [x_lt_f, lt_x_t, bI_f h0]; simp
  · have h0 : ¬ inR (nI j) 65 90 := by unfold inR; rw [n_toInt (by omega)]; omega
    simp (disch := omega) only [n_lt_t, bI_f h0]; simp
theorem p_t {A B : Prop} : ((¬ nI 1 = 0 → A) ∧ (nI 1 = 0 → B)) = A := propext ⟨fun q => q.1 (by decide), fun q => ⟨fun _ => q, fun z => absurd z (by decide)⟩⟩
theorem p_f {A B : Prop} : ((¬ nI 0 = 0 → A) ∧ (nI 0 = 0 → B)) = B := propext ⟨fun q => q.2 rfl, fun q => ⟨fun z => absurd rfl z, fun _ => q⟩⟩
theorem p_t2 {A B : Prop} : ((nI 1 = 0 → B) ∧ (¬ nI 1 = 0 → A)) = A := propext ⟨fun q => q.2 (by decide), fun q => ⟨fun z => absurd z (by decide), fun _ => q⟩⟩
theorem p_f2 {A B : Prop} : ((nI 0 = 0 → B) ∧ (¬ nI 0 = 0 → A)) = B := propext ⟨fun q => q.1 rfl, fun q => ⟨fun _ => q, fun z => absurd rfl z⟩⟩
theorem p_c {c A B : Prop} (h : c) : ((c → A) ∧ (¬ c → B)) = A := propext ⟨fun q => q.1 h, fun q => ⟨fun _ => q, fun z => absurd h z⟩⟩
theorem p_n {c A B : Prop} (h : ¬ c) : ((c → A) ∧ (¬ c → B)) = B := propext ⟨fun q => q.2 h, fun q => ⟨fun z => absurd z h, fun _ => q⟩⟩
theorem p_c2 {c A B : Prop} (h : c) : ((¬ c → B) ∧ (c → A)) = A := propext ⟨fun q => q.2 h, fun q => ⟨fun z => absurd h z, fun _ => q⟩⟩
theorem p_n2 {c A B : Prop} (h : ¬ c) : ((¬ c → B) ∧ (c → A)) = B := propext ⟨fun q => q.1 h, fun q => ⟨fun _ => q, fun z => absurd z h⟩⟩
theorem e_mw_isLetter (x : Int32) (P : Int32 → Prop) : mw_isLetter x P = P (bI (inR x 65 90 ∨ inR x 97 122)) := by
  have e : mw_isLetter x P = mw_isGreat x (fun r1 => (¬ r1 = 0 → P 1) ∧ (r1 = 0 → mw_isSmall x P)) := rfl
  rw [e, e_mw_isGreat, e_mw_isSmall]
  by_cases h : inR x 65 90
  · rw [bI_t (show inR x 65 90 ∨ inR x 97 122 from Or.inl h), bI_t h]; exact p_t
  · rw [bI_f h]
    refine p_f.trans ?_
    by_cases h2 : inR x 97 122
    · rw [bI_t (show inR x 65 90 ∨ inR x 97 122 from Or.inr h2), bI_t h2]
    · rw [bI_f (show ¬ (inR x 65 90 ∨ inR x 97 122) from fun q => q.elim h h2), bI_f h2]
theorem e_xs_isLetter (x : Int32) (P : Int32 → Prop) : xs_isLetter x P = P (bI (inR x 65 90 ∨ inR x 97 122)) := by
  unfold xs_isLetter
  rw [e_xs_isSmall]
  simp only [e_xs_isGreat]
  by_cases h2 : inR x 97 122
  · rw [bI_t (show inR x 65 90 ∨ inR x 97 122 from Or.inr h2), bI_t h2]; exact p_t
  · rw [bI_f h2]
    refine p_f.trans ?_
    by_cases h : inR x 65 90
    · rw [bI_t (show inR x 65 90 ∨ inR x 97 122 from Or.inl h), bI_t h]; exact p_t2
    · rw [bI_f (show ¬ (inR x 65 90 ∨ inR x 97 122) from fun q => q.elim h h2), bI_f h]; exact p_f2
theorem e_isBlank (x : Int32) (P : Int32 → Prop) : mw_isBlank x P = P (bI (x = nI 10 ∨ x = nI 32)) := by
  unfold mw_isBlank
  by_cases h : x = nI 10
  · rw [bI_t (show x = nI 10 ∨ x = nI 32 from Or.inl h)]; exact p_c h
  · refine (p_n h).trans ?_
    by_cases h2 : x = nI 32
    · rw [bI_t (show x = nI 10 ∨ x = nI 32 from Or.inr h2)]; exact p_c2 h2
    · rw [bI_f (show ¬ (x = nI 10 ∨ x = nI 32) from fun q => q.elim h h2)]; exact p_n2 h2
theorem e_xs_isBlank (x : Int32) (P : Int32 → Prop) : xs_isBlank x P = P (bI (x = nI 10 ∨ x = nI 32)) := e_isBlank x P
theorem e_isFrom (a b c : Int64) (P : Int32 → Prop) : mw_isFrom a b c P = P (bI (b.toInt ≤ a.toInt ∧ a.toInt ≤ c.toInt)) := by
  unfold mw_isFrom
  simp only [l_cmp_lt, l_cmp_gt]
  by_cases h : a.toInt < b.toInt
  · have h0 : ¬ (b.toInt ≤ a.toInt ∧ a.toInt ≤ c.toInt) := by omega
    rw [bI_f h0]; exact p_c h
  · refine (p_n h).trans ?_
    by_cases h2 : c.toInt < a.toInt
    · have h0 : ¬ (b.toInt ≤ a.toInt ∧ a.toInt ≤ c.toInt) := by omega
      rw [bI_f h0]; exact p_c h2
    · have h0 : b.toInt ≤ a.toInt ∧ a.toInt ≤ c.toInt := by omega
      rw [bI_t h0]; exact p_n h2
theorem e_isIn (a b c : Int64) (P : Int32 → Prop) : xs_isIn a b c P = P (bI (b.toInt ≤ a.toInt ∧ a.toInt ≤ c.toInt)) := e_isFrom a b c P

