/-! PLAIN LAW: what is set is well made -/
set_option linter.unusedVariables false
theorem hN_s {w : Nat → Int32} {k c : Nat} (hc : c < 2147483648) : hN (up w k (nI c)) k = c := by unfold hN; rw [up_s, n_cl hc]
theorem hN_o {w : Nat → Int32} {k j : Nat} {v : Int32} (h : j ≠ k) : hN (up w k v) j = hN w j := by unfold hN; rw [up_n h]
theorem hN_of {w : Nat → Int32} {k c : Nat} (h : w k = nI c) (hc : c < 2147483648) : hN w k = c := by unfold hN; rw [h, n_cl hc]
/-- what stands elsewhere stays -/
theorem sS_o {v by0 : Int32} {w : Nat → Int32} {j : Nat} (h1 : j ≠ 8) (h2 : j ≠ 600 + hN w 8) (h3 : j ≠ 2040 + hN w 8) : sS v by0 w j = w j := by unfold sS; rw [up_n h1, up_n h3, up_n h2]
theorem sS_8 {v by0 : Int32} {w : Nat → Int32} : sS v by0 w 8 = nI (hN w 8 + 1) := by unfold sS; rw [up_s]
theorem sS_c {v by0 : Int32} {w : Nat → Int32} (h : hN w 8 < 1250) : sS v by0 w (600 + hN w 8) = v := by unfold sS; rw [up_n (by omega), up_n (by omega), up_s]
theorem sS_b {v by0 : Int32} {w : Nat → Int32} (h : hN w 8 < 1250) : sS v by0 w (2040 + hN w 8) = by0 := by unfold sS; rw [up_n (by omega), up_s]
theorem sS_h8 {v by0 : Int32} {w : Nat → Int32} (h : hN w 8 < 1250) : hN (sS v by0 w) 8 = hN w 8 + 1 := hN_of sS_8 (by omega)
theorem sS_h {v by0 : Int32} {w : Nat → Int32} {j : Nat} (h1 : j ≠ 8) (h2 : j ≠ 600 + hN w 8) (h3 : j ≠ 2040 + hN w 8) : hN (sS v by0 w) j = hN w j := by unfold hN; rw [sS_o h1 h2 h3]
def SI (h w : Nat → Int32) : Prop :=
  w 8 = nI (hN w 8) ∧ w 9 = nI (hN w 9) ∧ w 11 = nI (hN w 11) ∧ hN w 11 ≤ hN w 8 ∧
  (∀ k, k < hN w 8 → w (600 + k) = nI (hN w (600 + k)) ∧ hN w (600 + k) ≤ 63) ∧
  (∀ k, k < hN w 8 → w (2040 + k) = iM ∨ (w (2040 + k) = nI (hN w (2040 + k)) ∧ hN w (2040 + k) < hN h 0)) ∧
  (∀ k, k < hN w 9 → w (1850 + k) = nI (hN w (1850 + k)) ∧ hN w (1850 + k) ≤ hN w 8) ∧
  ∀ k, k + 1 < hN w 9 → hN w (1850 + k) + 2 ≤ hN w (1850 + (k + 1))
theorem SI.set {h w : Nat → Int32} {v by0 : Int32} {c : Nat} (hS : SI h w) (h8 : hN w 8 < 1250) (h9 : hN w 9 ≤ 150) (hv : v = nI c) (hc : c ≤ 63) (hb : by0 = iM ∨ ∃ r, by0 = nI r ∧ r < hN h 0 ∧ r < 24) : SI h (sS v by0 w) ∧ hN (sS v by0 w) 8 = hN w 8 + 1 ∧ hN (sS v by0 w) 9 = hN w 9 ∧ hN (sS v by0 w) 11 = hN w 11 := by
  obtain ⟨s1, s2, s3, s4, s5, s6, s7, s8⟩ := hS
  have e8 : hN (sS v by0 w) 8 = hN w 8 + 1 := sS_h8 h8
  have e9 : hN (sS v by0 w) 9 = hN w 9 := sS_h (by omega) (by omega) (by omega)
  have e11 : hN (sS v by0 w) 11 = hN w 11 := sS_h (by omega) (by omega) (by omega)
  refine ⟨⟨by rw [e8, sS_8], by rw [e9, sS_o (by omega) (by omega) (by omega), s2], by rw [e11, sS_o (by omega) (by omega) (by omega), s3], by omega, fun k hk => ?_, fun k hk => ?_, fun k hk => ?_, fun k hk => ?_⟩, e8, e9, e11⟩
  · rw [e8] at hk
    by_cases hk2 : k = hN w 8
    · subst hk2
      rw [hN_of (sS_c h8 |>.trans hv) (by omega), sS_c h8, hv]
      exact ⟨rfl, hc⟩
    · rw [sS_h (by omega) (by omega) (by omega), sS_o (by omega) (by omega) (by omega)]
      exact s5 k (by omega)
  · rw [e8] at hk
    by_cases hk2 : k = hN w 8
    · subst hk2
      rw [sS_b h8]
      rcases hb with hb | ⟨r, hb, hr, hr2⟩
      · exact Or.inl hb
      · rw [hN_of (sS_b h8 |>.trans hb) (by omega), hb]
        exact Or.inr ⟨rfl, hr⟩
    · rw [sS_h (by omega) (by omega) (by omega), sS_o (by omega) (by omega) (by omega)]
      exact s6 k (by omega)
  · rw [e9] at hk
    rw [e8, sS_h (by omega) (by omega) (by omega), sS_o (by omega) (by omega) (by omega)]
    obtain ⟨z1, z2⟩ := s7 k hk
    exact ⟨z1, by omega⟩
  · rw [e9] at hk
    rw [sS_h (by omega) (by omega) (by omega), sS_h (by omega) (by omega) (by omega)]
    exact s8 k hk
theorem srU_o {r : Nat} {w : Nat → Int32} {j : Nat} (h1 : j ≠ 10) (h2 : j ≠ 2010 + r) : srU r w j = w j := by unfold srU; rw [up_n h1, up_n h2]
theorem srU_h {r : Nat} {w : Nat → Int32} {j : Nat} (h1 : j ≠ 10) (h2 : j ≠ 2010 + r) : hN (srU r w) j = hN w j := by unfold hN; rw [srU_o h1 h2]
theorem SI.upd {h w v : Nat → Int32} (hS : SI h w) (h9 : hN w 9 ≤ 150) (h8 : hN w 8 ≤ 1250) (he : ∀ j, (j = 8 ∨ j = 9 ∨ j = 11 ∨ (600 ≤ j ∧ j < 2010) ∨ 2040 ≤ j) → v j = w j) : SI h v := by
  have hh : ∀ j, (j = 8 ∨ j = 9 ∨ j = 11 ∨ (600 ≤ j ∧ j < 2010) ∨ 2040 ≤ j) → hN v j = hN w j := fun j hj => by unfold hN; rw [he j hj]
  obtain ⟨s1, s2, s3, s4, s5, s6, s7, s8⟩ := hS
  have e8 := hh 8 (by omega)
  have e9 := hh 9 (by omega)
  have e11 := hh 11 (by omega)
  refine ⟨by rw [e8, he 8 (by omega), s1], by rw [e9, he 9 (by omega), s2], by rw [e11, he 11 (by omega), s3], by omega, fun k hk => ?_, fun k hk => ?_, fun k hk => ?_, fun k hk => ?_⟩
  · rw [e8] at hk; rw [hh _ (by omega), he _ (by omega)]; exact s5 k hk
  · rw [e8] at hk; rw [hh _ (by omega), he _ (by omega)]; exact s6 k hk
  · rw [e9] at hk; rw [e8, hh _ (by omega), he _ (by omega)]; exact s7 k hk
  · rw [e9] at hk; rw [hh _ (by omega), hh _ (by omega)]; exact s8 k hk
/-- a rule's cells -/
theorem SI.rule {h w : Nat → Int32} {r : Nat} (hT : WT h) (hS : SI h w) (hr : r < hN h 0) (h8 : hN w 8 + 3 ≤ 1250) (h9 : hN w 9 ≤ 150) : SI h (srS h r w) ∧ hN (srS h r w) 8 = hN w 8 + hN h (12 + 12 * r + 7) ∧ hN (srS h r w) 9 = hN w 9 ∧ hN (srS h r w) 11 = hN w 11 := by
  obtain ⟨⟨_, g0⟩, _, _, _, _, _, gr⟩ := hT
  obtain ⟨_, _, ⟨_, c1, c3⟩, gc, _⟩ := gr r hr
  have key := it_inv (f := srC h r) (a := w) (fun k v => SI h v ∧ hN v 8 = hN w 8 + k ∧ hN v 9 = hN w 9 ∧ hN v 11 = hN w 11) ⟨hS, rfl, rfl, rfl⟩ (hN h (12 + 12 * r + 7)) (fun k v hk hv => by
    obtain ⟨i1, i2, i3, i4⟩ := hv
    obtain ⟨z1, z2, z3⟩ := gc k hk
    obtain ⟨j1, j2, j3, j4⟩ := i1.set (by omega) (by omega) z1 (by omega) (by0 := nI r) (Or.inr ⟨r, rfl, hr, by omega⟩)
    exact ⟨j1, by unfold srC; omega, by unfold srC; omega, by unfold srC; omega⟩)
  obtain ⟨i1, i2, i3, i4⟩ := key
  unfold srS
  refine ⟨i1.upd (by omega) (by omega) (fun j hj => srU_o (by omega) (by omega)), ?_, ?_, ?_⟩
  · rw [srU_h (by omega) (by omega), i2]
  · rw [srU_h (by omega) (by omega), i3]
  · rw [srU_h (by omega) (by omega), i4]
theorem SI.word1 {h w : Nat → Int32} {r : Nat} (hT : WT h) (hS : SI h w) (hr : r < hN h 0) (h8 : hN w 8 + 3 ≤ 1250) (h9 : hN w 9 ≤ 150) : SI h (swS h r w) ∧ hN (swS h r w) 8 = hN w 8 + hN h (12 + 12 * r + 7) ∧ hN (swS h r w) 9 = hN w 9 := by
  obtain ⟨i1, i2, i3, i4⟩ := hS.rule hT hr h8 h9
  obtain ⟨⟨_, g0⟩, _, _, _, _, _, gr⟩ := hT
  obtain ⟨_, _, ⟨_, c1, c3⟩, gc, _⟩ := gr r hr
  have h11 : hN w 11 ≤ hN w 8 := hS.2.2.2.1
  unfold swS
  generalize hv : srS h r w = v at i1 i2 i3 i4
  have e8 : hN (up v 11 (nI (hN w 11 + hN h (12 + 12 * r + 7)))) 8 = hN v 8 := hN_o (by omega)
  have e9 : hN (up v 11 (nI (hN w 11 + hN h (12 + 12 * r + 7)))) 9 = hN v 9 := hN_o (by omega)
  have e11 : hN (up v 11 (nI (hN w 11 + hN h (12 + 12 * r + 7)))) 11 = hN w 11 + hN h (12 + 12 * r + 7) := hN_s (by omega)
  obtain ⟨s1, s2, s3, s4, s5, s6, s7, s8⟩ := i1
  refine ⟨⟨by rw [e8, up_n (by omega), s1], by rw [e9, up_n (by omega), s2], by rw [e11, up_s], by omega, fun k hk => ?_, fun k hk => ?_, fun k hk => ?_, fun k hk => ?_⟩, by rw [e8, i2], by rw [e9, i3]⟩
  · rw [e8] at hk; rw [hN_o (by omega), up_n (by omega)]; exact s5 k hk
  · rw [e8] at hk; rw [hN_o (by omega), up_n (by omega)]; exact s6 k hk
  · rw [e9] at hk; rw [e8, hN_o (by omega), up_n (by omega)]; exact s7 k hk
  · rw [e9] at hk; rw [hN_o (by omega), hN_o (by omega)]; exact s8 k hk
/-- a word -/
theorem SI.word {h b : Nat → Int32} {g : Int32} {first last : Nat} (hT : WT h) (hl : last ≤ 300) : ∀ f p w, SI h w → hN w 8 ≤ 4 * p → hN w 9 ≤ 150 → p ≤ last → last < p + f → (wdS h b g first last f p w).1 = none → SI h (wdS h b g first last f p w).2 ∧ hN (wdS h b g first last f p w).2 8 ≤ 4 * last ∧ hN (wdS h b g first last f p w).2 9 = hN w 9 ∧ (p < last → hN w 8 + 1 ≤ hN (wdS h b g first last f p w).2 8) ∧ hN w 8 ≤ hN (wdS h b g first last f p w).2 8
  | 0, p, w, hS, h8, h9, hp, hf, he => by omega
  | f + 1, p, w, hS, h8, h9, hp, hf, he => by
    unfold wdS at he ⊢
    by_cases c : last ≤ p
    · rw [if_pos c] at he ⊢
      have : p = last := by omega
      subst this
      exact ⟨hS, h8, rfl, fun q => by omega, Nat.le_refl _⟩
    · rw [if_neg c] at he ⊢
      cases ht : tkS h b g p first last (hN h 0) with
      | none => rw [ht] at he; simp at he
      | some r =>
        rw [ht] at he
        simp only at he ⊢
        obtain ⟨hr, _, hst⟩ := tkS_some _ _ ht
        have hT2 := hT
        obtain ⟨⟨_, g0⟩, ⟨g1, g1l⟩, _, _, _, _, gr⟩ := hT2
        obtain ⟨⟨_, l1, l6⟩, _, ⟨_, c1, c3⟩, gc, _⟩ := gr r hr
        have hpl : p + hN h (12 + 12 * r) ≤ last := hst.1
        by_cases cg : inR (b p) 65 90
        · rw [if_pos cg] at he ⊢
          by_cases ch : h 1 = nI 0
          · rw [if_pos ch] at he; simp at he
          · rw [if_neg ch] at he ⊢
            obtain ⟨i1, i2, i3, _⟩ := hS.set (v := h 1) (by0 := iM) (by omega) h9 g1 g1l (Or.inl rfl)
            obtain ⟨j1, j2, j3⟩ := i1.word1 hT hr (by omega) (by omega)
            obtain ⟨k1, k2, k3, k4, k5⟩ := SI.word hT hl f _ _ j1 (by omega) (by omega) hpl (by omega) he
            exact ⟨k1, k2, by omega, fun _ => by omega, by omega⟩
        · rw [if_neg cg] at he ⊢
          obtain ⟨j1, j2, j3⟩ := hS.word1 hT hr (by omega) h9
          obtain ⟨k1, k2, k3, k4, k5⟩ := SI.word hT hl f _ _ j1 (by omega) (by omega) hpl (by omega) he
          exact ⟨k1, k2, by omega, fun _ => by omega, by omega⟩
/-- digits: at least one, if there is one -/
theorem SI.digits {h b : Nat → Int32} {g : Int32} {bn : Nat} (hT : WT h) (hbn : bn ≤ 300) (hb : ∀ k, bn ≤ k → b k = nI 32) : ∀ f p w, SI h w → hN w 8 + 3 ≤ 4 * p + 4 → hN w 9 ≤ 150 → p ≤ bn → bn < p + f → (dgS h b g f p w).1 = none →
    SI h (dgS h b g f p w).2.2 ∧ hN (dgS h b g f p w).2.2 8 ≤ 4 * (dgS h b g f p w).2.1 + 1 ∧ hN (dgS h b g f p w).2.2 9 = hN w 9 ∧ hN w 8 ≤ hN (dgS h b g f p w).2.2 8 ∧ p ≤ (dgS h b g f p w).2.1 ∧ (dgS h b g f p w).2.1 ≤ bn ∧
    (p < (dgS h b g f p w).2.1 → hN (dgS h b g f p w).2.2 8 ≤ 4 * (dgS h b g f p w).2.1 ∧ inR (b ((dgS h b g f p w).2.1 - 1)) 48 57) ∧ (inR (b p) 48 57 → p < (dgS h b g f p w).2.1) ∧ ¬ inR (b (dgS h b g f p w).2.1) 48 57
  | 0, p, w, hS, h8, h9, hp, hf, he => by omega
  | f + 1, p, w, hS, h8, h9, hp, hf, he => by
    unfold dgS at he ⊢
    by_cases c : inR (b p) 48 57
    · rw [if_pos c] at he ⊢
      have hpb : p < bn := by
        rcases Nat.lt_or_ge p bn with q | q
        · exact q
        · rw [hb p q] at c; unfold inR at c; rw [n_toInt (by omega)] at c; omega
      cases ht : jsS h (fgL (b p)) g with
      | none => rw [ht] at he; simp at he
      | some r =>
        rw [ht] at he
        simp only at he ⊢
        obtain ⟨hr, _⟩ := fsS_some ht
        have hT2 := hT
        obtain ⟨⟨_, g0⟩, _, _, _, _, _, gr⟩ := hT2
        obtain ⟨_, _, ⟨_, c1, c3⟩, _, _⟩ := gr r hr
        obtain ⟨i1, i2, i3, _⟩ := hS.rule hT hr (by omega) h9
        obtain ⟨k1, k2, k3, k4, k5, k6, k7, k8, k9⟩ := SI.digits hT hbn hb f (p + 1) (srS h r w) i1 (by omega) (by omega) (by omega) (by omega) he
        refine ⟨k1, k2, by omega, by omega, by omega, k6, fun _ => ?_, fun _ => by omega, k9⟩
        rcases Nat.lt_or_ge (p + 1) (dgS h b g f (p + 1) (srS h r w)).2.1 with q | q
        · exact k7 q
        · have e : (dgS h b g f (p + 1) (srS h r w)).2.1 = p + 1 := by omega
          cases f with
          | zero => omega
          | succ f =>
            have hd : ¬ inR (b (p + 1)) 48 57 := by rw [← e]; exact k9
            have e2 : dgS h b g (f + 1) (p + 1) (srS h r w) = (none, p + 1, srS h r w) := by
              conv => lhs; unfold dgS
              rw [if_neg hd]
            rw [e2]
            exact ⟨by show hN (srS h r w) 8 ≤ _; simp only; omega, by simp only [Nat.add_sub_cancel]; exact c⟩
    · rw [if_neg c] at he ⊢
      exact ⟨hS, by simp only; omega, rfl, Nat.le_refl _, Nat.le_refl _, hp, fun q => by simp only at q; omega, fun q => absurd q c, c⟩
