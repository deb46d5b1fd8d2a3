/-! PLAIN LAW: the cells that are set do not hang on what lay there before -/
set_option linter.unusedVariables false
def RC (w v : Nat → Int32) : Prop := RW w v ∧ ∀ k, k < hN w 8 → w (600 + k) = v (600 + k)
theorem RC.s1 {w v : Nat → Int32} {c b : Int32} (h : RC w v) (h8 : hN w 8 < 1250) : RC (sS c b w) (sS c b v) := by
  have e8 := h.1.h8
  refine ⟨h.1.s1, fun k hk => ?_⟩
  rw [sS_h8 h8] at hk
  by_cases z : k = hN w 8
  · subst z
    rw [sS_c h8]
    have := sS_c (v := c) (by0 := b) (w := v) (by omega)
    rw [← e8] at this
    exact this.symm
  · rw [sS_o (by omega) (by omega) (by omega), sS_o (by omega) (by omega) (by omega)]
    exact h.2 k (by omega)
theorem RC.u1 {w v : Nat → Int32} {k : Nat} {x y : Int32} (h : RC w v) (h8 : k ≠ 8) (h9 : k ≠ 9) (hk : k < 600 ∨ 1850 ≤ k) (hb : hN w 8 ≤ 1250) : RC (up w k x) (up v k y) := by
  refine ⟨h.1.u h8 h9, fun j hj => ?_⟩
  rw [hN_o (by omega)] at hj
  rw [up_n (by omega), up_n (by omega)]
  exact h.2 j hj
theorem RC.i1 {h w v : Nat → Int32} {r : Nat} (hq : RC w v) : ∀ n, hN w 8 + n ≤ 1250 → RC (it (srC h r) w n) (it (srC h r) v n) ∧ hN (it (srC h r) w n) 8 = hN w 8 + n
  | 0, _ => ⟨hq, rfl⟩
  | n + 1, hn => by
    obtain ⟨h1, h2⟩ := RC.i1 (h := h) (r := r) hq n (by omega)
    rw [it_s, it_s]
    generalize it (srC h r) w n = w2 at h1 h2 ⊢
    generalize it (srC h r) v n = v2 at h1 ⊢
    unfold srC
    exact ⟨h1.s1 (by omega), by rw [sS_h8 (by omega), h2]; omega⟩
theorem RC.r1 {h w v : Nat → Int32} {r : Nat} (hT : WT h) (hr : r < hN h 0) (hq : RC w v) (h8 : hN w 8 + 3 ≤ 1250) : RC (srS h r w) (srS h r v) := by
  obtain ⟨_, _, ⟨_, c1, c3⟩, _, _⟩ := hT.2.2.2.2.2.2 r hr
  obtain ⟨h1, h2⟩ := RC.i1 (h := h) (r := r) hq (hN h (12 + 12 * r + 7)) (by omega)
  unfold srS srU
  have h3 := h1.u1 (k := 2010 + r) (x := it (srC h r) w (hN h (12 + 12 * r + 7)) (2010 + r) + nI 1) (y := it (srC h r) v (hN h (12 + 12 * r + 7)) (2010 + r) + nI 1) (by omega) (by omega) (by omega) (by omega)
  exact h3.u1 (by omega) (by omega) (by omega) (by rw [hN_o (by omega)]; omega)
theorem RC.w1 {h w v : Nat → Int32} {r : Nat} (hT : WT h) (hS : SI h w) (hr : r < hN h 0) (hq : RC w v) (h8 : hN w 8 + 3 ≤ 1250) (h9 : hN w 9 ≤ 150) : RC (swS h r w) (swS h r v) := by
  obtain ⟨_, _, ⟨_, c1, c3⟩, _, _⟩ := hT.2.2.2.2.2.2 r hr
  have := (hS.rule hT hr h8 h9).2.1
  unfold swS
  exact (hq.r1 hT hr h8).u1 (by omega) (by omega) (by omega) (by omega)
theorem RC.wd {h b c : Nat → Int32} {g : Int32} {first last : Nat} (hT : WT h) (hl : last ≤ 300) : ∀ f p w v, (∀ q, p ≤ q → q < last → b q = c q) → SI h w → hN w 8 ≤ 4 * p → hN w 9 ≤ 150 → p ≤ last → RC w v → (wdS h b g first last f p w).1 = none → RC (wdS h b g first last f p w).2 (wdS h c g first last f p v).2
  | 0, p, w, v, hbc, hS, h8, h9, hp, hq, he => hq
  | f + 1, p, w, v, hbc, hS, h8, h9, hp, hq, he => by
    by_cases hlp : last ≤ p
    · simp only [wdS, if_pos hlp]
      exact hq
    · have e := hbc p (Nat.le_refl _) (by omega)
      have et : tkS h c g p first last (hN h 0) = tkS h b g p first last (hN h 0) := (tkS_cong hbc).symm
      simp only [wdS, if_neg hlp, et, ← e] at he ⊢
      cases ht : tkS h b g p first last (hN h 0) with
      | none => rw [ht] at he; simp at he
      | some r =>
        rw [ht] at he
        simp only at he ⊢
        obtain ⟨hr, _, hst⟩ := tkS_some _ _ ht
        obtain ⟨⟨_, g0⟩, ⟨g1, g1l⟩, _, _, _, _, gr⟩ := id hT
        obtain ⟨⟨_, l1, l6⟩, _, ⟨_, c1, c3⟩, gc, _⟩ := gr r hr
        have hpl : p + hN h (12 + 12 * r) ≤ last := hst.1
        by_cases hG : inR (b p) 65 90
        · by_cases h1 : h 1 = nI 0
          · rw [if_pos hG, if_pos h1] at he; simp at he
          · rw [if_pos hG, if_neg h1] at he
            simp only [if_pos hG, if_neg h1]
            obtain ⟨i1, i2, i3, i4⟩ := hS.set (v := h 1) (by0 := iM) (by omega) h9 g1 g1l (Or.inl rfl)
            obtain ⟨j1, j2, j3⟩ := i1.word1 hT hr (by omega) (by omega)
            exact RC.wd hT hl f _ _ _ (fun q h1 h2 => hbc q (by omega) h2) j1 (by omega) (by omega) hpl ((hq.s1 (by omega)).w1 hT i1 hr (by omega) (by omega)) he
        · rw [if_neg hG] at he
          simp only [if_neg hG]
          obtain ⟨j1, j2, j3⟩ := hS.word1 hT hr (by omega) h9
          exact RC.wd hT hl f _ _ _ (fun q h1 h2 => hbc q (by omega) h2) j1 (by omega) (by omega) hpl (hq.w1 hT hS hr (by omega) h9) he
theorem RC.pi3 {h b c : Nat → Int32} {p : Nat} {w v : Nat → Int32} (hp : p < 300) (hc : B2 b c) (hI : TI h b p w) (hq : RC w v) : RC (piS b p w) (piS c p v) := by
  have e : (p = 0 ∨ isB (b (p - 1))) ↔ (p = 0 ∨ isB (c (p - 1))) := by rw [hc.iB]
  obtain ⟨t1, t2, t3, t4, t5, t6, t7⟩ := hI
  have h9 := hq.1.h9
  have hnq : ∀ w v : Nat → Int32, RC w v → hN w 8 ≤ 1250 → RC (nqS w) (nqS v) := fun w v hq hb => by
    refine ⟨hq.1.q1, fun k hk => ?_⟩
    have e8 : hN (nqS w) 8 = hN w 8 := by unfold nqS; rw [hN_o (by omega), hN_o (by omega)]
    rw [e8] at hk
    unfold nqS
    rw [up_n (by omega), up_n (by omega), up_n (by omega), up_n (by omega)]
    exact hq.2 k hk
  unfold piS
  by_cases z : p = 0 ∨ isB (b (p - 1))
  · rw [if_pos z, if_pos (e.mp z)]
    unfold npS
    rw [← h9]
    by_cases z2 : 0 < hN w 9
    · rw [if_pos z2, if_pos z2]
      have h58 : hN w 8 + 4 ≤ 4 * p ∨ (hN w 8 = 0 ∧ hN w 9 = 0) := by
        rcases Nat.eq_zero_or_pos p with h0 | h0
        · exact Or.inr (t7 h0)
        · rcases z with c | c
          · omega
          · exact Or.inl (t5 h0 c).1
      exact hnq _ _ (hq.s1 (by omega)) (by rw [sS_h8 (by omega)]; omega)
    · rw [if_neg z2, if_neg z2]
      exact hnq _ _ hq (by omega)
  · rw [if_neg z, if_neg (fun q => z (e.mpr q))]
    exact hq
theorem RC.dg {h b c : Nat → Int32} {g : Int32} {bn : Nat} (hT : WT h) (hc : B2 b c) (hbn : bn ≤ 300) (hb : ∀ k, bn ≤ k → b k = nI 32) : ∀ f p w v, SI h w → hN w 8 + 3 ≤ 4 * p + 4 → hN w 9 ≤ 150 → RC w v → (dgS h b g f p w).1 = none → RC (dgS h b g f p w).2.2 (dgS h c g f p v).2.2
  | 0, p, w, v, hS, h8, h9, hq, he => hq
  | f + 1, p, w, v, hS, h8, h9, hq, he => by
    by_cases hD : inR (b p) 48 57
    · have e := hc.eq (Or.inr (Or.inr hD))
      have hpb : p < bn := by
        rcases Nat.lt_or_ge p bn with q | q
        · exact q
        · rw [hb p q] at hD; unfold inR at hD; rw [n_toInt (by omega)] at hD; omega
      simp only [dgS, ← e, if_pos hD] at he ⊢
      cases ht : jsS h (fgL (b p)) g with
      | none => rw [ht] at he; simp at he
      | some r =>
        rw [ht] at he
        simp only at he ⊢
        obtain ⟨hr, _⟩ := fsS_some ht
        obtain ⟨_, _, ⟨_, c1, c3⟩, _, _⟩ := hT.2.2.2.2.2.2 r hr
        obtain ⟨i1, i2, i3, i4⟩ := hS.rule hT hr (by omega) h9
        exact RC.dg hT hc hbn hb f (p + 1) _ _ i1 (by omega) (by omega) (hq.r1 hT hr (by omega)) he
    · simp only [dgS, if_neg hD, if_neg (fun q => hD ((hc.iD p).mpr q))]
      exact hq
theorem RC.sa {h b c : Nat → Int32} {g : Int32} {bn : Nat} (hT : WT h) (hc : B2 b c) : ∀ f p w v, WB b bn w → TI h b p w → p ≤ bn → bn < p + f → RC w v → (saS h b g bn f p w).1 = none → RC (saS h b g bn f p w).2 (saS h c g bn f p v).2
  | 0, p, w, v, hB, hI, hp, hlf, hq, he => hq
  | f + 1, p, w, v, hB, hI, hp, hlf, hq, he => by
    have hbn := hB.2.1
    by_cases cl : bn ≤ p
    · simp only [saS, if_pos cl]; exact hq
    by_cases cb : isB (b p)
    · simp only [saS, if_neg cl, if_pos cb, if_pos ((hc.iB p).mp cb)] at he ⊢
      exact RC.sa hT hc f (p + 1) w v hB (hI.blank cb) (by omega) (by omega) hq he
    have hB' : ¬ isB (c p) := fun q => cb ((hc.iB p).mpr q)
    obtain ⟨i1, i2, i3, i4, i5⟩ := hI.pi (by omega)
    have hpi := RC.pi3 (p := p) (by omega) hc hI hq
    by_cases hL : isL (b p)
    · have hL' := (hc.iL p).mp hL
      have n1 : ¬ (¬ isL (b p) ∧ ¬ inR (b p) 48 57) := fun z => z.1 hL
      have n2 : ¬ (¬ isL (c p) ∧ ¬ inR (c p) 48 57) := fun z => z.1 hL'
      simp only [saS, if_neg cl, if_neg cb, if_neg hB', if_neg n1, if_neg n2, if_pos hL, if_pos hL', hc.wS] at he ⊢
      have hle := weS_le (b := b) (bn := bn) (p := p) (by omega)
      have hlt := weS_lt hB.2.2.2 hL
      have hin : ∀ q, p ≤ q → q < weS b bn p → b q = c q := fun q h1 h2 => hc.eq (Or.inr (Or.inl (weS_in h1 h2)))
      have e1 := (RW.wd (h := h) (b := b) (c := c) (g := g) (first := p) (last := weS b bn p) (weS b bn p - p + 1) p _ _ hin hpi.1).1
      have e2 := RC.wd (h := h) (b := b) (c := c) (g := g) (first := p) (last := weS b bn p) hT (by omega) (weS b bn p - p + 1) p _ _ hin i1 i2 (by omega) (by omega) hpi
      cases hw : wdS h b g p (weS b bn p) (weS b bn p - p + 1) p (piS b p w) with
      | mk x1 x2 =>
        rw [hw] at he e1 e2
        cases x1 with
        | some e => simp at he
        | none =>
          obtain ⟨k1, k2⟩ := TI.word hT hB hI (by omega) hL hw
          have e2 := e2 rfl
          generalize wdS h c g p (weS b bn p) (weS b bn p - p + 1) p (piS c p v) = y at e1 e2
          obtain ⟨y1, y2⟩ := y
          have e1 : none = y1 := e1
          subst e1
          exact RC.sa hT hc f _ _ _ k2 k1 hle (by omega) e2 he
    have hL' : ¬ isL (c p) := fun q => hL ((hc.iL p).mpr q)
    by_cases hD : inR (b p) 48 57
    · have hD' := (hc.iD p).mp hD
      have n1 : ¬ (¬ isL (b p) ∧ ¬ inR (b p) 48 57) := fun z => z.2 hD
      have n2 : ¬ (¬ isL (c p) ∧ ¬ inR (c p) 48 57) := fun z => z.2 hD'
      by_cases h2 : h 2 = nI 0
      · simp only [saS, if_neg cl, if_neg cb, if_neg n1, if_neg hL, if_pos h2] at he
        simp at he
      · simp only [saS, if_neg cl, if_neg cb, if_neg hB', if_neg n1, if_neg n2, if_neg hL, if_neg hL', if_neg h2] at he ⊢
        obtain ⟨_, _, ⟨g2, g2l⟩, _⟩ := id hT
        obtain ⟨s1, s2, s3, s4⟩ := i1.set (v := h 2) (by0 := iM) (by omega) (by omega) g2 g2l (Or.inl rfl)
        have hps := hpi.s1 (c := h 2) (b := iM) (by omega)
        obtain ⟨e1, e2, _⟩ := RW.dg (h := h) (g := g) hc (bn - p + 1) p _ _ hps.1
        have e3 := RC.dg (h := h) (g := g) hT hc hbn hB.2.2.2 (bn - p + 1) p _ _ s1 (by omega) (by omega) hps
        cases hd : dgS h b g (bn - p + 1) p (sS (h 2) iM (piS b p w)) with
        | mk x1 x =>
          obtain ⟨x2, x3⟩ := x
          rw [hd] at he e1 e2 e3
          cases x1 with
          | some e => simp at he
          | none =>
            have e3 := e3 rfl
            obtain ⟨k1, k2, k3, k4⟩ := TI.figure hT hB hI (by omega) hD hd
            generalize dgS h c g (bn - p + 1) p (sS (h 2) iM (piS c p v)) = y at e1 e2 e3
            obtain ⟨y1, y2, y3⟩ := y
            have e1 : none = y1 := e1
            have e2 : x2 = y2 := e2
            subst e1 e2
            exact RC.sa hT hc f _ _ _ k2 k1 k4 (by omega) e3 he
    · have n1 : ¬ isL (b p) ∧ ¬ inR (b p) 48 57 := ⟨hL, hD⟩
      simp only [saS, if_neg cl, if_neg cb, if_pos n1] at he
      simp at he
