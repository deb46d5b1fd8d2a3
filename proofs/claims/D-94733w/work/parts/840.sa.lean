/-! PLAIN LAW: what is set, as a pure function of a table (h: a slot), bytes (b) and what was set before (w: a slot) -/
set_option linter.unusedVariables false
noncomputable def cI {α : Sort _} (c : Prop) (x y : α) : α := @ite α c (Classical.propDecidable c) x y
theorem cI_t {α : Sort _} {c : Prop} {x y : α} (h : c) : cI c x y = x := by unfold cI; exact if_pos h
theorem cI_f {α : Sort _} {c : Prop} {x y : α} (h : ¬ c) : cI c x y = y := by unfold cI; exact if_neg h
abbrev isL (c : Int32) : Prop := inR c 65 90 ∨ inR c 97 122
abbrev isB (c : Int32) : Prop := c = nI 10 ∨ c = nI 32
def rA (r : Nat) : Nat := 12 + 12 * r
def outS (g : Int32) (r : Nat) : Prop := ((g >>> (nI r &&& nI 31)) &&& nI 1) = nI 1
def lOf (c : Int32) : Int32 := if inR c 65 90 then (c - nI 65) + nI 1 else (c - nI 97) + nI 1
noncomputable def hoS (d : Int32) (bg en : Prop) : Prop := d = nI 0 ∨ d = cI bg (cI en (nI 4) (nI 1)) (cI en (nI 3) (nI 2))
/-- whether a rule may stand at p of the word from first to last -/
def stS (h b : Nat → Int32) (r p first last : Nat) : Prop :=
  p + hN h (12 + 12 * r) ≤ last ∧ (∀ k, k < hN h (12 + 12 * r) → lOf (b (p + k)) = h (12 + 12 * r + 1 + k) ∧ (0 < k → ¬ inR (b (p + k)) 65 90)) ∧ hoS (h (12 + 12 * r + 11)) (p = first) (p + hN h (12 + 12 * r) = last)
def oI : Option Nat → Int32
  | none => iM
  | some r => nI r
def tkC (h : Nat → Int32) (best : Option Nat) (r : Nat) : Prop := best = none ∨ ∃ q, best = some q ∧ hN h (12 + 12 * q) < hN h (12 + 12 * r)
noncomputable def tkF (h b : Nat → Int32) (g : Int32) (p first last r : Nat) (best : Option Nat) : Option Nat := cI (¬ outS g r ∧ stS h b r p first last ∧ tkC h best r) (some r) best
/-- the rule that is taken -/
noncomputable def tkS (h b : Nat → Int32) (g : Int32) (p first last n : Nat) : Option Nat := it (tkF h b g p first last) none n
noncomputable def fsD (p : Nat → Prop) : Nat → Nat → Option Nat
  | 0, k => none
  | d + 1, k => cI (p k) (some k) (fsD p d (k + 1))
/-- the first below n -/
noncomputable def fsS (p : Nat → Prop) (n : Nat) : Option Nat := fsD p n 0
def jsP (h : Nat → Int32) (l g : Int32) (r : Nat) : Prop := ¬ outS g r ∧ h (12 + 12 * r) = nI 1 ∧ h (12 + 12 * r + 1) = l ∧ h (12 + 12 * r + 11) = nI 0
/-- the first rule that is just a letter -/
noncomputable def jsS (h : Nat → Int32) (l g : Int32) : Option Nat := fsS (jsP h l g) (hN h 0)
def fgL (c : Int32) : Int32 := if c = nI 48 then nI 10 else c - nI 48
def weF (b : Nat → Int32) : Nat → Nat → Nat
  | 0, p => p
  | f + 1, p => if isL (b p) then weF b f (p + 1) else p
/-- the end of a word -/
def weS (b : Nat → Int32) (bn p : Nat) : Nat := weF b (bn - p) p
/-- a cell is set -/
def sS (v by0 : Int32) (w : Nat → Int32) : Nat → Int32 := up (up (up w (600 + hN w 8) v) (2040 + hN w 8) by0) 8 (nI (hN w 8 + 1))
def srC (h : Nat → Int32) (r k : Nat) (w : Nat → Int32) : Nat → Int32 := sS (h (12 + 12 * r + 7 + 1 + k)) (nI r) w
def srU (r : Nat) (w : Nat → Int32) : Nat → Int32 := up (up w (2010 + r) (w (2010 + r) + nI 1)) 10 (w 10 + nI 1)
/-- a rule's cells are set -/
def srS (h : Nat → Int32) (r : Nat) (w : Nat → Int32) : Nat → Int32 := srU r (it (srC h r) w (hN h (12 + 12 * r + 7)))
def swS (h : Nat → Int32) (r : Nat) (w : Nat → Int32) : Nat → Int32 := up (srS h r w) 11 (nI (hN w 11 + hN h (12 + 12 * r + 7)))
abbrev RS : Type := Option (Nat × Nat) × (Nat → Int32)
/-- a word is set -/
noncomputable def wdS (h b : Nat → Int32) (g : Int32) (first last : Nat) : Nat → Nat → (Nat → Int32) → RS
  | 0, p, w => (none, w)
  | f + 1, p, w => if last ≤ p then (none, w) else
    match tkS h b g p first last (hN h 0) with
    | none => (some (3, p), w)
    | some r => if inR (b p) 65 90 then (if h 1 = nI 0 then (some (5, p), w) else wdS h b g first last f (p + hN h (12 + 12 * r)) (swS h r (sS (h 1) iM w)))
      else wdS h b g first last f (p + hN h (12 + 12 * r)) (swS h r w)
/-- a figure's digits are set -/
noncomputable def dgS (h b : Nat → Int32) (g : Int32) : Nat → Nat → (Nat → Int32) → Option (Nat × Nat) × Nat × (Nat → Int32)
  | 0, p, w => (none, p, w)
  | f + 1, p, w => if inR (b p) 48 57 then
      (match jsS h (fgL (b p)) g with
      | none => (some (4, p), p, w)
      | some r => dgS h b g f (p + 1) (srS h r w))
    else (none, p, w)
def npS (w : Nat → Int32) : Nat → Int32 := if 0 < hN w 9 then sS (nI 0) iM w else w
def nqS (w : Nat → Int32) : Nat → Int32 := up (up w (1850 + hN w 9) (w 8)) 9 (nI (hN w 9 + 1))
/-- a piece begins, or not -/
def piS (b : Nat → Int32) (p : Nat) (w : Nat → Int32) : Nat → Int32 := if p = 0 ∨ isB (b (p - 1)) then nqS (npS w) else w
noncomputable def saS (h b : Nat → Int32) (g : Int32) (bn : Nat) : Nat → Nat → (Nat → Int32) → RS
  | 0, p, w => (none, w)
  | f + 1, p, w => if bn ≤ p then (none, w) else
    if isB (b p) then saS h b g bn f (p + 1) w else
    if ¬ isL (b p) ∧ ¬ inR (b p) 48 57 then (some (1, p), w) else
    if isL (b p) then
      (match wdS h b g p (weS b bn p) (weS b bn p - p + 1) p (piS b p w) with
      | (some e, w2) => (some e, w2)
      | (none, w2) => saS h b g bn f (weS b bn p) w2)
    else if h 2 = nI 0 then (some (4, p), piS b p w) else
      (match dgS h b g (bn - p + 1) p (sS (h 2) iM (piS b p w)) with
      | (some e, _, w2) => (some e, w2)
      | (none, p2, w2) => saS h b g bn f p2 w2)
def zrF (k : Nat) (w : Nat → Int32) : Nat → Int32 := up w (2010 + k) (nI 0)
def zrS (w : Nat → Int32) : Nat → Int32 := it zrF (up (up (up (up w 8 (nI 0)) 9 (nI 0)) 10 (nI 0)) 11 (nI 0)) 24
noncomputable def setS (h b : Nat → Int32) (g : Int32) (bn : Nat) (w : Nat → Int32) : RS := saS h b g bn (bn + 1) 0 (zrS w)
/-! small laws of these -/
theorem it_inv {α : Type} {f : Nat → α → α} {a : α} (I : Nat → α → Prop) (h0 : I 0 a) : ∀ n : Nat, (∀ k b, k < n → I k b → I (k + 1) (f k b)) → I n (it f a n)
  | 0, _ => h0
  | n + 1, hs => hs n _ (by omega) (it_inv I h0 n (fun k b hk h => hs k b (by omega) h))
theorem weF_ge {b : Nat → Int32} : ∀ f p, p ≤ weF b f p
  | 0, p => Nat.le_refl p
  | f + 1, p => by
    unfold weF
    split
    · exact Nat.le_trans (by omega) (weF_ge f (p + 1))
    · omega
theorem weF_le {b : Nat → Int32} : ∀ f p, weF b f p ≤ p + f
  | 0, p => Nat.le_refl p
  | f + 1, p => by
    unfold weF
    split
    · exact Nat.le_trans (weF_le f (p + 1)) (by omega)
    · omega
theorem weF_in {b : Nat → Int32} : ∀ f p q, p ≤ q → q < weF b f p → isL (b q)
  | 0, p, q, h1, h2 => by unfold weF at h2; omega
  | f + 1, p, q, h1, h2 => by
    unfold weF at h2
    split at h2
    · rename_i hL
      rcases Nat.lt_or_ge p q with h3 | h3
      · exact weF_in f (p + 1) q (by omega) h2
      · have : q = p := by omega
        rw [this]; exact hL
    · omega
theorem weF_end {b : Nat → Int32} : ∀ f p, weF b f p < p + f → ¬ isL (b (weF b f p))
  | 0, p, h => by unfold weF at h; omega
  | f + 1, p, h => by
    unfold weF at h ⊢
    split
    · rename_i hL
      rw [if_pos hL] at h
      exact weF_end f (p + 1) (by omega)
    · rename_i hL; exact hL
theorem weF_same {b : Nat → Int32} : ∀ f p q, p ≤ q → q ≤ weF b f p → weF b (p + f - q) q = weF b f p
  | 0, p, q, h1, h2 => by
    unfold weF at h2
    have : q = p := by omega
    subst this; simp
  | f + 1, p, q, h1, h2 => by
    rcases Nat.lt_or_ge p q with h3 | h3
    · have hs : weF b (f + 1) p = weF b f (p + 1) := by
        by_cases hL : isL (b p)
        · show (if isL (b p) then weF b f (p + 1) else p) = weF b f (p + 1)
          rw [if_pos hL]
        · have e : weF b (f + 1) p = p := by
            show (if isL (b p) then weF b f (p + 1) else p) = p
            rw [if_neg hL]
          omega
      rw [hs] at h2 ⊢
      rw [← weF_same f (p + 1) q (by omega) h2]
      congr 1; omega
    · have : q = p := by omega
      subst this; congr 1; omega
theorem weS_ge {b : Nat → Int32} {bn p : Nat} : p ≤ weS b bn p := weF_ge _ _
theorem weS_le {b : Nat → Int32} {bn p : Nat} (h : p ≤ bn) : weS b bn p ≤ bn := Nat.le_trans (weF_le _ _) (by omega)
theorem weS_in {b : Nat → Int32} {bn p q : Nat} (h1 : p ≤ q) (h2 : q < weS b bn p) : isL (b q) := weF_in _ _ q h1 h2
theorem weS_end {b : Nat → Int32} {bn p : Nat} (hb : ∀ k, bn ≤ k → b k = nI 32) (h : p ≤ bn) : ¬ isL (b (weS b bn p)) := by
  rcases Nat.lt_or_ge (weS b bn p) bn with h2 | h2
  · exact weF_end _ _ (by unfold weS at h2; omega)
  · rw [hb _ h2]
    unfold isL inR
    rw [n_toInt (by omega)]; omega
theorem weS_same {b : Nat → Int32} {bn p q : Nat} (h1 : p ≤ q) (h2 : q ≤ weS b bn p) (h : p ≤ bn) : weS b bn q = weS b bn p := by
  have h3 := weS_le (b := b) h
  have := weF_same (b := b) (bn - p) p q h1 h2
  unfold weS
  rw [← this]; congr 1; omega
theorem weS_lt {b : Nat → Int32} {bn p : Nat} (hb : ∀ k, bn ≤ k → b k = nI 32) (hL : isL (b p)) : p < weS b bn p := by
  have h1 : p < bn := by
    rcases Nat.lt_or_ge p bn with h | h
    · exact h
    · rw [hb _ h] at hL; unfold isL inR at hL; rw [n_toInt (by omega)] at hL; omega
  obtain ⟨d, hd⟩ : ∃ d, bn - p = d + 1 := ⟨bn - p - 1, by omega⟩
  unfold weS
  rw [hd]; unfold weF
  rw [if_pos hL]
  exact Nat.lt_of_lt_of_le (by omega) (weF_ge d (p + 1))
theorem fsD_some {p : Nat → Prop} : ∀ d k r, fsD p d k = some r → k ≤ r ∧ r < k + d ∧ p r ∧ ∀ j, k ≤ j → j < r → ¬ p j
  | 0, k, r, h => by simp [fsD] at h
  | d + 1, k, r, h => by
    unfold fsD at h
    by_cases c : p k
    · rw [cI_t c] at h
      simp only [Option.some.injEq] at h
      subst h
      exact ⟨by omega, by omega, c, fun j h1 h2 => by omega⟩
    · rw [cI_f c] at h
      obtain ⟨h1, h2, h3, h4⟩ := fsD_some d (k + 1) r h
      refine ⟨by omega, by omega, h3, fun j h5 h6 => ?_⟩
      rcases Nat.lt_or_ge k j with h7 | h7
      · exact h4 j (by omega) h6
      · have : j = k := by omega
        rw [this]; exact c
theorem fsD_none {p : Nat → Prop} : ∀ d k, fsD p d k = none → ∀ j, k ≤ j → j < k + d → ¬ p j
  | 0, k, h, j, h1, h2 => by omega
  | d + 1, k, h, j, h1, h2 => by
    unfold fsD at h
    by_cases c : p k
    · rw [cI_t c] at h; simp at h
    · rw [cI_f c] at h
      rcases Nat.lt_or_ge k j with h7 | h7
      · exact fsD_none d (k + 1) h j (by omega) (by omega)
      · have : j = k := by omega
        rw [this]; exact c
theorem fsS_some {p : Nat → Prop} {n r : Nat} (h : fsS p n = some r) : r < n ∧ p r ∧ ∀ j, j < r → ¬ p j := by
  obtain ⟨h1, h2, h3, h4⟩ := fsD_some n 0 r h
  exact ⟨by omega, h3, fun j hj => h4 j (by omega) hj⟩
theorem fsS_none {p : Nat → Prop} {n : Nat} (h : fsS p n = none) : ∀ j, j < n → ¬ p j := fun j hj => fsD_none n 0 h j (by omega) (by omega)
theorem fsS_cong {p q : Nat → Prop} {n : Nat} (h : ∀ j, j < n → (p j ↔ q j)) : fsS p n = fsS q n := by
  cases hp : fsS p n with
  | none =>
    cases hq : fsS q n with
    | none => rfl
    | some r => obtain ⟨h1, h2, _⟩ := fsS_some hq; exact absurd ((h r h1).mpr h2) (fsS_none hp r h1)
  | some r =>
    obtain ⟨h1, h2, h3⟩ := fsS_some hp
    cases hq : fsS q n with
    | none => exact absurd ((h r h1).mp h2) (fsS_none hq r h1)
    | some s =>
      obtain ⟨g1, g2, g3⟩ := fsS_some hq
      rcases Nat.lt_trichotomy r s with c | c | c
      · exact absurd ((h r h1).mp h2) (g3 r c)
      · rw [c]
      · exact absurd ((h s g1).mpr g2) (h3 s c)
theorem tkS_some {h b : Nat → Int32} {g : Int32} {p first last : Nat} : ∀ n r, tkS h b g p first last n = some r → r < n ∧ ¬ outS g r ∧ stS h b r p first last := by
  intro n
  induction n with
  | zero => intro r h; simp [tkS, it] at h
  | succ n ih =>
    intro r hr
    unfold tkS at hr ih
    rw [it_s] at hr
    unfold tkF at hr
    by_cases c : ¬ outS g n ∧ stS h b n p first last ∧ tkC h (it (tkF h b g p first last) none n) n
    · have hr2 : some n = some r := by rw [← hr]; exact (cI_t c).symm
      simp only [Option.some.injEq] at hr2
      subst hr2
      exact ⟨by omega, c.1, c.2.1⟩
    · have hr2 : it (tkF h b g p first last) none n = some r := by rw [← hr]; exact (cI_f c).symm
      obtain ⟨h1, h2⟩ := ih r hr2
      exact ⟨by omega, h2⟩
