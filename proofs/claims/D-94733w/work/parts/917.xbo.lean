/-! PLAIN LAW: answers 33: two rows of rules for the same cells (what can be reached) -/
set_option linter.unusedVariables false
def cN (h : Nat → Int32) (r : Nat) : Nat := hN h (12 + 12 * r + 7)
def cC (h : Nat → Int32) (r k : Nat) : Nat := hN h (12 + 12 * r + 7 + 1 + k)
/-- the code of a rule's cells from i on -/
def cde (h : Nat → Int32) (r i : Nat) : Nat := if cN h r ≤ i then 0 else if cN h r = i + 1 then cC h r i else 64 * cC h r i + cC h r (i + 1)
theorem cde_0 {h : Nat → Int32} {r i : Nat} (c : cN h r ≤ i) : cde h r i = 0 := if_pos c
theorem cde_1 {h : Nat → Int32} {r i : Nat} (c : cN h r = i + 1) : cde h r i = cC h r i := by unfold cde; rw [if_neg (by omega), if_pos c]
theorem cde_2 {h : Nat → Int32} {r i : Nat} (c : i + 2 ≤ cN h r) : cde h r i = 64 * cC h r i + cC h r (i + 1) := by unfold cde; rw [if_neg (by omega), if_neg (by omega)]
def sz (c : Nat) : Nat := if c = 0 then 0 else if 64 ≤ c then 2 else 1
def cel (c k : Nat) : Nat := if 64 ≤ c then (if k = 0 then c / 64 else c % 64) else c
def ri (h : Nat → Int32) (r : Nat) : Prop := r < hN h 0 ∧ ¬ outS (h 6) r
def preR (h : Nat → Int32) (c r : Nat) : Prop := ∀ k, k < sz c → k < cN h r → cel c k = cC h r k
/-- where a hang goes on with a rule, and how many cells more -/
def stR (h : Nat → Int32) (c r d w : Nat) : Prop := preR h c r ∧ ((cN h r < sz c ∧ d = cel c 1 ∧ w = 0) ∨ (sz c ≤ cN h r ∧ d = cde h r (sz c) ∧ w = cN h r - sz c))
def Rc (h : Nat → Int32) : Nat → Nat → Nat → Prop
  | 0, c, t => ∃ a b, a ≠ b ∧ ri h a ∧ ri h b ∧ clD h a b ∧ c = cde h b (cN h a) ∧ t = cN h b
  | k + 1, c, t => ∃ d s r w, Rc h k d s ∧ d ≠ 0 ∧ ri h r ∧ stR h d r c w ∧ t = s + w
def LW (h : Nat → Int32) : Option Nat → Prop
  | none => ∀ k t, ¬ Rc h k 0 t
  | some d => (∃ k, Rc h k 0 d) ∧ ∀ k t, Rc h k 0 t → d ≤ t
theorem LW.un {h : Nat → Int32} {x y : Option Nat} (hx : LW h x) (hy : LW h y) : x = y := by
  cases x with
  | none =>
    cases y with
    | none => rfl
    | some d => obtain ⟨⟨k, hk⟩, _⟩ := hy; exact absurd hk (hx k d)
  | some c =>
    cases y with
    | none => obtain ⟨⟨k, hk⟩, _⟩ := hx; exact absurd hk (hy k c)
    | some d =>
      obtain ⟨⟨k, hk⟩, h1⟩ := hx
      obtain ⟨⟨j, hj⟩, h2⟩ := hy
      have := h1 j d hj
      have := h2 k c hk
      rw [show c = d by omega]
theorem least (p : Nat → Prop) : ∀ n, p n → ∃ d, p d ∧ ∀ t, p t → d ≤ t := by
  intro n
  induction n using Nat.strongRecOn with
  | _ n ih =>
    intro hn
    by_cases c : ∃ t, t < n ∧ p t
    · obtain ⟨t, h1, h2⟩ := c
      exact ih t h1 h2
    · refine ⟨n, hn, fun t ht => ?_⟩
      rcases Nat.lt_or_ge t n with q | q
      · exact absurd ⟨t, q, ht⟩ c
      · exact q
theorem LW.ex (h : Nat → Int32) : ∃ x, LW h x := by
  by_cases c : ∃ t, ∃ k, Rc h k 0 t
  · obtain ⟨t, ht⟩ := c
    obtain ⟨d, hd, hd2⟩ := least (fun t => ∃ k, Rc h k 0 t) t ht
    exact ⟨some d, hd, fun k t hk => hd2 t ⟨k, hk⟩⟩
  · exact ⟨none, fun k t hk => c ⟨t, k, hk⟩⟩
theorem cC_in {h : Nat → Int32} {r k : Nat} (hT : WT h) (hr : r < hN h 0) (hk : k < cN h r) : 1 ≤ cC h r k ∧ cC h r k ≤ 63 := ((hT.2.2.2.2.2.2 r hr).2.2.2.1 k hk).2
theorem cN_in {h : Nat → Int32} {r : Nat} (hT : WT h) (hr : r < hN h 0) : 1 ≤ cN h r ∧ cN h r ≤ 3 := (hT.2.2.2.2.2.2 r hr).2.2.1.2
theorem cde_le {h : Nat → Int32} {r i : Nat} (hT : WT h) (hr : r < hN h 0) : cde h r i ≤ 4160 := by
  have hn := cN_in hT hr
  rcases Nat.lt_or_ge i (cN h r) with c | c
  · by_cases c1 : cN h r = i + 1
    · rw [cde_1 c1]
      have := cC_in hT hr c
      omega
    · rw [cde_2 (by omega)]
      have := cC_in hT hr c
      have := cC_in hT hr (show i + 1 < cN h r by omega)
      omega
  · rw [cde_0 c]; omega
theorem cde_sz {h : Nat → Int32} {r i : Nat} (hT : WT h) (hr : r < hN h 0) (hi : 1 ≤ i) : sz (cde h r i) = cN h r - i := by
  have hn := cN_in hT hr
  rcases Nat.lt_or_ge i (cN h r) with c | c
  · by_cases c1 : cN h r = i + 1
    · rw [cde_1 c1]
      have := cC_in hT hr c
      unfold sz
      rw [if_neg (by omega), if_neg (by omega)]
      omega
    · rw [cde_2 (by omega)]
      have := cC_in hT hr c
      have := cC_in hT hr (show i + 1 < cN h r by omega)
      unfold sz
      rw [if_neg (by omega), if_pos (by omega)]
      omega
  · rw [cde_0 c]
    unfold sz
    rw [if_pos rfl]; omega
theorem cde_cel {h : Nat → Int32} {r i k : Nat} (hT : WT h) (hr : r < hN h 0) (hi : 1 ≤ i) (hk : k < cN h r - i) : cel (cde h r i) k = cC h r (i + k) := by
  have hn := cN_in hT hr
  by_cases c1 : cN h r = i + 1
  · rw [cde_1 c1]
    have := cC_in hT hr (show i < cN h r by omega)
    have : k = 0 := by omega
    subst this
    unfold cel
    rw [if_neg (by omega)]
    rfl
  · rw [cde_2 (by omega)]
    have := cC_in hT hr (show i < cN h r by omega)
    have := cC_in hT hr (show i + 1 < cN h r by omega)
    unfold cel
    rw [if_pos (by omega)]
    by_cases z : k = 0
    · subst z
      rw [if_pos rfl]
      show _ = cC h r i
      omega
    · have : k = 1 := by omega
      subst this
      rw [if_neg z]
      omega
/-- a rule's cells, as numbers -/
theorem cC_eq {h : Nat → Int32} {r k q j : Nat} (hT : WT h) (hr : r < hN h 0) (hk : k < cN h r) (hq : q < hN h 0) (hj : j < cN h q) : h (12 + 12 * r + 7 + 1 + k) = h (12 + 12 * q + 7 + 1 + j) ↔ cC h r k = cC h q j := by
  have e1 : h (12 + 12 * r + 7 + 1 + k) = nI (cC h r k) := ((hT.2.2.2.2.2.2 r hr).2.2.2.1 k hk).1
  have e2 : h (12 + 12 * q + 7 + 1 + j) = nI (cC h q j) := ((hT.2.2.2.2.2.2 q hq).2.2.2.1 j hj).1
  rw [e1, e2]
  have := cC_in hT hr hk
  have := cC_in hT hq hj
  constructor
  · intro z
    have := congrArg Int32.toNatClampNeg z
    rw [n_cl (by omega), n_cl (by omega)] at this
    exact this
  · intro z; rw [z]
/-- the component's turns are the same ones -/
theorem ah_q {h : Nat → Int32} {r i q : Nat} (hT : WT h) (hr : r < hN h 0) (hi : 1 ≤ i) (hi2 : i ≤ cN h r) (hq : q < hN h 0) : ahD h q 0 r i ↔ cN h q ≤ cN h r - i ∧ preR h (cde h r i) q := by
  unfold ahD preR
  rw [cde_sz hT hr hi]
  show (cN h q - 0 ≤ cN h r - i ∧ _) ↔ _
  constructor
  · intro z
    refine ⟨by omega, fun k h1 h2 => ?_⟩
    have := z.2 k (Nat.zero_le _) h2
    rw [show i + k - 0 = i + k by omega] at this
    rw [cde_cel hT hr hi h1]
    exact ((cC_eq hT hq h2 hr (by omega)).mp this).symm
  · intro z
    refine ⟨by omega, fun k _ h2 => ?_⟩
    have h2 : k < cN h q := h2
    have := z.2 k (by omega) h2
    rw [cde_cel hT hr hi (by omega)] at this
    rw [show i + k - 0 = i + k by omega]
    exact (cC_eq hT hq h2 hr (by omega)).mpr this.symm
theorem ah_r {h : Nat → Int32} {r i q : Nat} (hT : WT h) (hr : r < hN h 0) (hi : 1 ≤ i) (hi2 : i ≤ cN h r) (hq : q < hN h 0) : ahD h r i q 0 ↔ cN h r - i ≤ cN h q ∧ preR h (cde h r i) q := by
  unfold ahD preR
  rw [cde_sz hT hr hi]
  show (cN h r - i ≤ cN h q - 0 ∧ _) ↔ _
  constructor
  · intro z
    refine ⟨by omega, fun k h1 h2 => ?_⟩
    have := z.2 (i + k) (by omega) (show i + k < cN h r by omega)
    rw [show 0 + (i + k) - i = k by omega] at this
    rw [cde_cel hT hr hi h1]
    exact (cC_eq hT hr (by omega) hq h2).mp this
  · intro z
    refine ⟨by omega, fun k h1 h2 => ?_⟩
    have h2 : k < cN h r := h2
    have := z.2 (k - i) (by omega) (by omega)
    rw [cde_cel hT hr hi (by omega), show i + (k - i) = k by omega] at this
    rw [show 0 + k - i = k - i by omega]
    exact (cC_eq hT hr h2 hq (by omega)).mpr this
/-- how many below n are such -/
noncomputable def cnt (p : Nat → Prop) : Nat → Nat
  | 0 => 0
  | n + 1 => cnt p n + cI (p n) 1 0
theorem cnt_le {p : Nat → Prop} : ∀ n, cnt p n ≤ n
  | 0 => Nat.le_refl _
  | n + 1 => by
    show cnt p n + _ ≤ _
    have := cnt_le (p := p) n
    by_cases c : p n
    · rw [cI_t c]; omega
    · rw [cI_f c]; omega
theorem cnt_same {p q : Nat → Prop} : ∀ n, (∀ k, k < n → (p k ↔ q k)) → cnt p n = cnt q n
  | 0, _ => rfl
  | n + 1, hpq => by
    show cnt p n + _ = cnt q n + _
    rw [cnt_same n (fun k hk => hpq k (by omega)), cI_c (hpq n (by omega))]
theorem cnt_one {p q : Nat → Prop} {j : Nat} (hp : ¬ p j) (hq : q j) : ∀ n, j < n → (∀ k, k < n → k ≠ j → (p k ↔ q k)) → cnt q n = cnt p n + 1
  | 0, hj, _ => by omega
  | n + 1, hj, hpq => by
    show cnt q n + _ = cnt p n + _ + 1
    by_cases c : j = n
    · subst c
      rw [cI_t hq, cI_f hp, cnt_same j (fun k hk => hpq k (by omega) (by omega))]
    · rw [cnt_one hp hq n (by omega) (fun k hk h2 => hpq k (by omega) h2), cI_c (hpq n (by omega) (by omega))]
      omega
def sumN (f : Nat → Nat) : Nat → Nat
  | 0 => 0
  | n + 1 => sumN f n + f n
theorem sumN_le {f g : Nat → Nat} : ∀ n, (∀ k, k < n → f k ≤ g k) → sumN f n ≤ sumN g n
  | 0, _ => Nat.le_refl _
  | n + 1, h => by
    show sumN f n + f n ≤ sumN g n + g n
    have := sumN_le n (fun k hk => h k (by omega))
    have := h n (by omega)
    omega
theorem sumN_lt {f g : Nat → Nat} {j : Nat} : ∀ n, j < n → (∀ k, k < n → f k ≤ g k) → f j < g j → sumN f n < sumN g n
  | 0, hj, _, _ => by omega
  | n + 1, hj, h, hl => by
    show sumN f n + f n < sumN g n + g n
    by_cases c : j = n
    · subst c
      have := sumN_le j (fun k hk => h k (by omega))
      omega
    · have := sumN_lt n (show j < n by omega) (fun k hk => h k (by omega)) hl
      have := h n (by omega)
      omega
