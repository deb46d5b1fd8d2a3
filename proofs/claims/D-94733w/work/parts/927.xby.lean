/-! PLAIN LAW: truths: the readings whose text, set again, gives the row back -/
set_option linter.unusedVariables false
/-- a text that is cut -/
def ctB (b : Nat → Int32) (e : Nat) : Nat → Int32 := fun p => if p < e then b p else nI 32
/-- a working slot with a text in it -/
def wcB (b : Nat → Int32) (e : Nat) : Nat → Int32 := fun k => if k = 7 then nI e else if 300 ≤ k then ctB b e (k - 300) else nI 0
theorem ctB_e {b : Nat → Int32} {e p : Nat} (h : e ≤ p) : ctB b e p = nI 32 := by unfold ctB; rw [if_neg (by omega)]
theorem ctB_i {b : Nat → Int32} {e p : Nat} (h : p < e) : ctB b e p = b p := by unfold ctB; rw [if_pos h]
theorem wcB_WB {b : Nat → Int32} {e : Nat} (he : e ≤ 300) : WB (ctB b e) e (wcB b e) :=
  ⟨by unfold wcB; rw [if_pos rfl], he, fun p hp => by unfold wcB; rw [if_neg (by omega), if_pos (by omega), Nat.add_sub_cancel_left], fun p hp => ctB_e hp⟩
/-- a reading's text gives the row -/
def isTr (h A : Nat → Int32) (many : Nat) (b : Nat → Int32) (e : Nat) : Prop :=
  (setS h (ctB b e) (h 6) e (wcB b e)).1 = none ∧ (setS h (ctB b e) (h 6) e (wcB b e)).2 8 = nI many ∧ ∀ k, k < many → (setS h (ctB b e) (h 6) e (wcB b e)).2 (600 + k) = A k
theorem isTr_w {h A : Nat → Int32} {many : Nat} {b : Nat → Int32} {e : Nat} {w : Nat → Int32} (hT : WT h) (hB : WB (ctB b e) e w) (hm : many ≤ 20) :
    isTr h A many b e ↔ ((setS h (ctB b e) (h 6) e w).1 = none ∧ (setS h (ctB b e) (h 6) e w).2 8 = nI many ∧ ∀ k, k < many → (setS h (ctB b e) (h 6) e w).2 (600 + k) = A k) := by
  have hz : RC (zrS w) (zrS (wcB b e)) := by
    obtain ⟨a8, a9, _, _⟩ := zrS_0 (w := w)
    obtain ⟨b8, b9, _, _⟩ := zrS_0 (w := wcB b e)
    refine ⟨⟨by rw [a8, b8], by rw [a9, b9]⟩, fun k hk => ?_⟩
    rw [show hN (zrS w) 8 = 0 from hN_of a8 (by omega)] at hk
    omega
  obtain ⟨e1, e2⟩ := set_ind2 (h := h) (g := h 6) (bn := e) (B2.refl (b := ctB b e)) w (wcB b e)
  have e3 : (setS h (ctB b e) (h 6) e w).1 = none → (setS h (ctB b e) (h 6) e w).2 8 = nI many → ∀ k, k < many → (setS h (ctB b e) (h 6) e w).2 (600 + k) = (setS h (ctB b e) (h 6) e (wcB b e)).2 (600 + k) := fun h1 h2 k hk => by
    have := RC.sa (h := h) (g := h 6) hT (B2.refl (b := ctB b e)) (e + 1) 0 (zrS w) (zrS (wcB b e)) hB.zrs zrS_TI (Nat.zero_le _) (by omega) hz h1
    exact this.2 k (by
      show k < hN (setS h (ctB b e) (h 6) e w).2 8
      rw [hN_of h2 (by omega)]; exact hk)
  unfold isTr
  rw [← e1, ← e2]
  constructor
  · rintro ⟨h1, h2, h3⟩
    exact ⟨h1, h2, fun k hk => (e3 h1 h2 k hk).trans (h3 k hk)⟩
  · rintro ⟨h1, h2, h3⟩
    exact ⟨h1, h2, fun k hk => (e3 h1 h2 k hk).symm.trans (h3 k hk)⟩
/-- a rule's letters behind a text -/
def apB (h b : Nat → Int32) (e r : Nat) : Nat → Int32 := fun k => if e ≤ k ∧ k < e + hN h (12 + 12 * r) then nI (96 + hN h (12 + 12 * r + 1 + (k - e))) else b k
/-- rules that may stand next -/
def nxR (h A F : Nat → Int32) (W : Nat → Nat) (many p r : Nat) : Prop := rdP h A F r p many ∧ W (p + hN h (12 + 12 * r + 7)) ≠ 0
/-- how many readings from a place on give the row back; the text so far -/
noncomputable def tcD (h A F : Nat → Int32) (W : Nat → Nat) (many : Nat) : Nat → Nat → Nat → (Nat → Int32) → Nat
  | 0, p, e, b => cI (isTr h A many b e) 1 0
  | f + 1, p, e, b => cI (p = many) (cI (isTr h A many b e) 1 0) (it (fun r n => cI (nxR h A F W many p r) (n + tcD h A F W many f (p + hN h (12 + 12 * r + 7)) (e + hN h (12 + 12 * r)) (apB h b e r)) n) 0 (hN h 0))
noncomputable def tcI (h A F : Nat → Int32) (W : Nat → Nat) (many f p e : Nat) (b : Nat → Int32) (r n : Nat) : Nat := cI (nxR h A F W many p r) (n + tcD h A F W many f (p + hN h (12 + 12 * r + 7)) (e + hN h (12 + 12 * r)) (apB h b e r)) n
theorem tcI_t {h A F : Nat → Int32} {W : Nat → Nat} {many f p e r n : Nat} {b : Nat → Int32} (c : nxR h A F W many p r) : tcI h A F W many f p e b r n = n + tcD h A F W many f (p + hN h (12 + 12 * r + 7)) (e + hN h (12 + 12 * r)) (apB h b e r) := cI_t c
theorem tcI_f {h A F : Nat → Int32} {W : Nat → Nat} {many f p e r n : Nat} {b : Nat → Int32} (c : ¬ nxR h A F W many p r) : tcI h A F W many f p e b r n = n := cI_f c
theorem tcD_m {h A F : Nat → Int32} {W : Nat → Nat} {many f p e : Nat} {b : Nat → Int32} (hp : p = many) : tcD h A F W many f p e b = cI (isTr h A many b e) 1 0 := by
  cases f with
  | zero => rfl
  | succ f => unfold tcD; rw [cI_t hp]
theorem tcD_s {h A F : Nat → Int32} {W : Nat → Nat} {many f p e : Nat} {b : Nat → Int32} (hp : p ≠ many) : tcD h A F W many (f + 1) p e b = it (tcI h A F W many f p e b) 0 (hN h 0) := by
  rw [tcD, cI_f hp]
  rfl
/-- some reading's text is set -/
def lfD (h A F : Nat → Int32) (W : Nat → Nat) (many : Nat) : Nat → Nat → Prop
  | 0, p => True
  | f + 1, p => p = many ∨ ∃ r, r < hN h 0 ∧ nxR h A F W many p r ∧ lfD h A F W many f (p + hN h (12 + 12 * r + 7))
theorem lfD_m {h A F : Nat → Int32} {W : Nat → Nat} {many f p : Nat} (hp : p = many) : lfD h A F W many f p := by
  cases f with
  | zero => trivial
  | succ f => exact Or.inl hp
