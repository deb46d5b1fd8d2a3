/-! PLAIN LAW: press: what a text comes to -/
set_option linter.unusedVariables false
/-- what is wrong -/
def flt (t : TK) (k : Nat) : Nat × Nat := (if tkk t = 4 then 1 else k, tkf t)
/-- the next token -/
noncomputable def nxT (b : Nat → Int32) (n : Nat) (t : TK) : TK := tkA b n (tke t)
/-- a rule's letters are laid -/
def rlL (h b : Nat → Int32) (t : TK) (r : Nat) : Nat → Int32 := fun k => if k = 12 + 12 * r then nI (tke t - tkf t) else if 12 + 12 * r + 1 ≤ k ∧ k < 12 + 12 * r + 7 then (if k - (12 + 12 * r + 1) < tke t - tkf t then nI ((b (tkf t + (k - (12 + 12 * r + 1)))).toNatClampNeg - 96) else nI 0) else h k
abbrev RO : Type := Sum (Nat × Nat) ((Nat → Int32) × TK)
/-- a rule's cells -/
noncomputable def clP (b : Nat → Int32) (n r : Nat) : Nat → (Nat → Int32) → TK → Nat → RO
  | 0, h, t, k => Sum.inl (0, 0)
  | f + 1, h, t, k => cI (tkk t = 2) (cI (1 ≤ tkv t ∧ tkv t ≤ 63) (cI (k = 3) (Sum.inl (5, tkf t)) (clP b n r f (up (up h (12 + 12 * r + 7 + 1 + k) (nI (tkv t))) (12 + 12 * r + 7) (nI (k + 1))) (nxT b n t) (k + 1))) (Sum.inl (4, tkf t))) (Sum.inr (h, t))
/-- where a rule may stand -/
noncomputable def cdN (b : Nat → Int32) (t : TK) : Nat := cI (wdP b t 3) 1 (cI (wdP b t 4) 2 (cI (wdP b t 5) 3 (cI (wdP b t 6) 4 0)))
/-- two rules are alike -/
def lkP (h : Nat → Int32) (o r : Nat) : Prop := h (12 + 12 * o) = h (12 + 12 * r) ∧ h (12 + 12 * o + 11) = h (12 + 12 * r + 11) ∧ ∀ k, k < hN h (12 + 12 * o) → h (12 + 12 * o + 1 + k) = h (12 + 12 * r + 1 + k)
/-- a rule from its end on -/
noncomputable def rlE (b : Nat → Int32) (n r : Nat) (h : Nat → Int32) (t : TK) : RO :=
  cI (tkk (cI (cdN b t = 0) t (nxT b n t)) = 3 ∧ ∃ o, o < r ∧ lkP (up h (12 + 12 * r + 11) (nI (cdN b t))) o r) (Sum.inl (3, tkf (cI (cdN b t = 0) t (nxT b n t)))) (Sum.inr (up (up h (12 + 12 * r + 11) (nI (cdN b t))) 0 (nI (r + 1)), cI (cdN b t = 0) t (nxT b n t)))
noncomputable def rlM (b : Nat → Int32) (n r : Nat) : RO → RO
  | Sum.inl e => Sum.inl e
  | Sum.inr (h, t) => rlE b n r h t
/-- a rule, behind its first word -/
noncomputable def rlX (b : Nat → Int32) (n : Nat) (h : Nat → Int32) (t : TK) : RO :=
  cI (hN h 0 = 24) (Sum.inl (6, tkf t)) (cI (tkk (nxT b n t) = 1 ∧ tke (nxT b n t) - tkf (nxT b n t) ≤ 6) (cI (wdP b (nxT b n (nxT b n t)) 2) (cI (tkk (nxT b n (nxT b n (nxT b n t))) = 2)
    (rlM b n (hN h 0) (clP b n (hN h 0) 5 (up (rlL h b (nxT b n t) (hN h 0)) (12 + 12 * hN h 0 + 7) (nI 0)) (nxT b n (nxT b n (nxT b n t))) 0))
    (Sum.inl (flt (nxT b n (nxT b n (nxT b n t))) 2))) (Sum.inl (flt (nxT b n (nxT b n t)) 2))) (Sum.inl (flt (nxT b n t) 2)))
/-- what was told already -/
def btT (td k : Nat) : Prop := td / 2 ^ k % 2 = 1
def loT (w : Nat) : Nat := if w = 4 then 4 else if w = 5 then 2 else 1
def hiT (w : Nat) : Nat := if w = 4 then 40 else if w = 5 then 30 else 63
abbrev PO : Type := Sum (Nat × Nat) ((Nat → Int32) × Nat × TK)
def rlT (td : Nat) : RO → PO
  | Sum.inl e => Sum.inl e
  | Sum.inr (h, t) => Sum.inr (h, td, t)
/-- a number's part -/
noncomputable def nuX (b : Nat → Int32) (n : Nat) (h : Nat → Int32) (td : Nat) (t : TK) (w : Nat) : PO :=
  cI (btT td w) (Sum.inl (5, tkf t)) (cI (tkk (nxT b n t) = 2) (cI (loT w ≤ tkv (nxT b n t) ∧ tkv (nxT b n t) ≤ hiT w) (Sum.inr (up h w (nI (tkv (nxT b n t))), td + 2 ^ w, nxT b n (nxT b n t))) (Sum.inl (4, tkf (nxT b n t)))) (Sum.inl (flt (nxT b n t) 2)))
/-- a part, but its sign -/
noncomputable def ptZ (b : Nat → Int32) (n : Nat) (h : Nat → Int32) (td : Nat) (t : TK) : PO :=
  cI (wdI b t = some 0) (rlT td (rlX b n h t)) (cI (∃ w, wdI b t = some w ∧ 1 ≤ w ∧ w ≤ 5) (nuX b n h td t ((wdI b t).getD 0)) (Sum.inl (flt t 2)))
noncomputable def sgZ (b : Nat → Int32) (n : Nat) : PO → PO
  | Sum.inl e => Sum.inl e
  | Sum.inr (h, td, t) => cI (tkk t = 3) (Sum.inr (h, td, nxT b n t)) (Sum.inl (flt t 2))
/-- a part -/
noncomputable def ptP (b : Nat → Int32) (n : Nat) (h : Nat → Int32) (td : Nat) (t : TK) : PO := sgZ b n (ptZ b n h td t)
noncomputable def psP (b : Nat → Int32) (n : Nat) : Nat → (Nat → Int32) → Nat → TK → Sum (Nat × Nat) (Nat → Int32)
  | 0, h, td, t => Sum.inl (1, 0)
  | f + 1, h, td, t => cI (tkk t = 0) (Sum.inr h) (match ptP b n h td t with
    | Sum.inl e => Sum.inl e
    | Sum.inr (h2, td2, t2) => psP b n f h2 td2 t2)
/-- a press that is empty -/
def emT : Nat → Int32 := fun k => if k = 4 then nI 32 else if k = 5 then nI 25 else if k = 7 then iM else nI 0
/-! what holds on the way -/
section PRD
variable {b : Nat → Int32} {n : Nat} {h h2 : Nat → Int32} {t t2 : TK}
theorem nxT_w (hw : TKw b n t) : TKw b n (nxT b n t) := tkA_w hw.2.1
theorem tkA_ge {p : Nat} : p ≤ tkf (tkA b n p) := by
  have e : ∀ p, tkf (tkB b n p) = p := fun p => by
    by_cases c : n ≤ p
    · rw [tkB_0 c]; rfl
    · by_cases c1 : inR (b p) 97 122
      · rw [tkB_1 (by omega) c1]; rfl
      · by_cases c2 : inR (b p) 48 57
        · rw [tkB_2 (by omega) c2]; rfl
        · rw [tkB_3 (by omega) c1 c2]; rfl
  show p ≤ tkf (tkB b n _)
  rw [e]
  exact rnE_ge _ _
theorem nxT_ge : tke t ≤ tkf (nxT b n t) := tkA_ge
/-- tokens in a text, in order -/
def TKo (b : Nat → Int32) (n : Nat) (t t2 : TK) : Prop := TKw b n t2 ∧ tke t ≤ tkf t2
theorem TKo.n1 (hw : TKw b n t) : TKo b n t (nxT b n t) := ⟨nxT_w hw, nxT_ge⟩
theorem TKo.nx (hw : TKo b n t t2) : TKo b n t (nxT b n t2) := ⟨nxT_w hw.1, Nat.le_trans hw.2 (Nat.le_trans hw.1.1 nxT_ge)⟩
/-- a press that is being made -/
def TBI (h : Nat → Int32) : Prop := WT h ∧ h 6 = nI 0 ∧ h 7 = iM
/-- and a rule of it -/
def RLk (h : Nat → Int32) (r L k : Nat) : Prop :=
  TBI h ∧ hN h 0 = r ∧ r < 24 ∧ h (12 + 12 * r) = nI L ∧ 1 ≤ L ∧ L ≤ 6 ∧ (∀ j, j < L → h (12 + 12 * r + 1 + j) = nI (hN h (12 + 12 * r + 1 + j)) ∧ 1 ≤ hN h (12 + 12 * r + 1 + j) ∧ hN h (12 + 12 * r + 1 + j) ≤ 26) ∧
  h (12 + 12 * r + 7) = nI k ∧ k ≤ 3 ∧ ∀ j, j < k → h (12 + 12 * r + 7 + 1 + j) = nI (hN h (12 + 12 * r + 7 + 1 + j)) ∧ 1 ≤ hN h (12 + 12 * r + 7 + 1 + j) ∧ hN h (12 + 12 * r + 7 + 1 + j) ≤ 63
theorem WT.cg (hT : WT h) (he : ∀ k, k < 6 ∨ (12 ≤ k ∧ k < 12 + 12 * hN h 0) → h2 k = h k) : WT h2 := by
  have eh : ∀ k, k < 6 ∨ (12 ≤ k ∧ k < 12 + 12 * hN h 0) → hN h2 k = hN h k := fun k hk => congrArg Int32.toNatClampNeg (he k hk)
  obtain ⟨g0, g1, g2, g3, g4, g5, gr⟩ := hT
  refine ⟨by rw [he 0 (by omega), eh 0 (by omega)]; exact g0, by rw [he 1 (by omega), eh 1 (by omega)]; exact g1, by rw [he 2 (by omega), eh 2 (by omega)]; exact g2, by rw [he 3 (by omega), eh 3 (by omega)]; exact g3, by rw [he 4 (by omega), eh 4 (by omega)]; exact g4, by rw [he 5 (by omega), eh 5 (by omega)]; exact g5, fun r hr => ?_⟩
  rw [eh 0 (by omega)] at hr
  obtain ⟨r1, r2, r3, r4, r5⟩ := gr r hr
  refine ⟨by rw [he _ (by omega), eh _ (by omega)]; exact r1, fun k hk => ?_, by rw [he _ (by omega), eh _ (by omega)]; exact r3, fun k hk => ?_, by rw [he _ (by omega), eh _ (by omega)]; exact r5⟩
  · rw [eh _ (by omega)] at hk
    rw [he _ (by omega), eh _ (by omega)]; exact r2 k hk
  · rw [eh _ (by omega)] at hk
    rw [he _ (by omega), eh _ (by omega)]; exact r4 k hk
theorem TBI.cg (hT : TBI h) (he : ∀ k, k < 8 ∨ (12 ≤ k ∧ k < 12 + 12 * hN h 0) → h2 k = h k) : TBI h2 :=
  ⟨hT.1.cg (fun k hk => he k (by omega)), by rw [he 6 (by omega)]; exact hT.2.1, by rw [he 7 (by omega)]; exact hT.2.2⟩
theorem TBI.rl {r : Nat} (hT : TBI h) (hr : hN h 0 = r) (hr2 : r < 24) (hw : TKw b n t) (hk : tkk t = 1) (hl : tke t - tkf t ≤ 6) : RLk (up (rlL h b t r) (12 + 12 * r + 7) (nI 0)) r (tke t - tkf t) 0 := by
  have h1 := hw.2.2.1 (by omega)
  have e0 : ∀ k, k < 12 + 12 * r → up (rlL h b t r) (12 + 12 * r + 7) (nI 0) k = h k := fun k hk => by
    rw [up_n (by omega)]
    unfold rlL
    rw [if_neg (by omega), if_neg (by omega)]
  have eL : ∀ j, j < tke t - tkf t → up (rlL h b t r) (12 + 12 * r + 7) (nI 0) (12 + 12 * r + 1 + j) = nI ((b (tkf t + j)).toNatClampNeg - 96) := fun j hj => by
    rw [up_n (by omega)]
    unfold rlL
    rw [if_neg (by omega), if_pos (by omega), if_pos (by omega), show 12 + 12 * r + 1 + j - (12 + 12 * r + 1) = j by omega]
  refine ⟨hT.cg (fun k hk => e0 k (by omega)), ?_, hr2, ?_, by omega, hl, fun j hj => ?_, up_s, by omega, fun j hj => by omega⟩
  · unfold hN
    rw [e0 0 (by omega)]
    exact hr
  · rw [up_n (by omega)]
    unfold rlL
    rw [if_pos rfl]
  · have hb := hw.2.2.2.2.1 hk (tkf t + j) (by omega) (by omega)
    obtain ⟨c1, c2⟩ := c_nI hb
    have hb2 := hb
    rw [c1] at hb2
    obtain ⟨d1, d2⟩ := hb2
    rw [n_toInt (by omega)] at d1 d2
    have e := hN_of (eL j hj) (by omega)
    rw [eL j hj, e]
    exact ⟨rfl, by omega, by omega⟩
theorem RLk.s {r L k v : Nat} (hR : RLk h r L k) (hk : k < 3) (h1 : 1 ≤ v) (h2 : v ≤ 63) : RLk (up (up h (12 + 12 * r + 7 + 1 + k) (nI v)) (12 + 12 * r + 7) (nI (k + 1))) r L (k + 1) := by
  obtain ⟨q1, q2, q3, q4, q5, q6, q7, q8, q9, q10⟩ := hR
  have e0 : ∀ j, j < 12 + 12 * r + 7 → up (up h (12 + 12 * r + 7 + 1 + k) (nI v)) (12 + 12 * r + 7) (nI (k + 1)) j = h j := fun j hj => by rw [up_n (by omega), up_n (by omega)]
  have eh : ∀ j, j < 12 + 12 * r + 7 → hN (up (up h (12 + 12 * r + 7 + 1 + k) (nI v)) (12 + 12 * r + 7) (nI (k + 1))) j = hN h j := fun j hj => congrArg Int32.toNatClampNeg (e0 j hj)
  refine ⟨q1.cg (fun j hj => e0 j (by omega)), by rw [eh 0 (by omega)]; exact q2, q3, by rw [e0 _ (by omega)]; exact q4, q5, q6, fun j hj => by rw [e0 _ (by omega), eh _ (by omega)]; exact q7 j hj, up_s, by omega, fun j hj => ?_⟩
  by_cases z : j = k
  · subst z
    have e : up (up h (12 + 12 * r + 7 + 1 + j) (nI v)) (12 + 12 * r + 7) (nI (j + 1)) (12 + 12 * r + 7 + 1 + j) = nI v := by rw [up_n (by omega), up_s]
    rw [e, hN_of e (by omega)]
    exact ⟨rfl, h1, h2⟩
  · have e : up (up h (12 + 12 * r + 7 + 1 + k) (nI v)) (12 + 12 * r + 7) (nI (k + 1)) (12 + 12 * r + 7 + 1 + j) = h (12 + 12 * r + 7 + 1 + j) := by rw [up_n (by omega), up_n (by omega)]
    rw [e, show hN (up (up h (12 + 12 * r + 7 + 1 + k) (nI v)) (12 + 12 * r + 7) (nI (k + 1))) (12 + 12 * r + 7 + 1 + j) = hN h (12 + 12 * r + 7 + 1 + j) from congrArg Int32.toNatClampNeg e]
    exact q10 j (by omega)
theorem RLk.fin {r L k c : Nat} (hR : RLk h r L k) (hk : 1 ≤ k) (hc : c ≤ 4) : TBI (up (up h (12 + 12 * r + 11) (nI c)) 0 (nI (r + 1))) := by
  obtain ⟨⟨q1, p6, p7⟩, q2, q3, q4, q5, q6, q7, q8, q9, q10⟩ := hR
  have e0 : ∀ j, j ≠ 0 → j < 12 + 12 * r + 11 → up (up h (12 + 12 * r + 11) (nI c)) 0 (nI (r + 1)) j = h j := fun j h0 hj => by rw [up_n h0, up_n (by omega)]
  have eh : ∀ j, j ≠ 0 → j < 12 + 12 * r + 11 → hN (up (up h (12 + 12 * r + 11) (nI c)) 0 (nI (r + 1))) j = hN h j := fun j h0 hj => congrArg Int32.toNatClampNeg (e0 j h0 hj)
  have n0 : hN (up (up h (12 + 12 * r + 11) (nI c)) 0 (nI (r + 1))) 0 = r + 1 := hN_s (by omega)
  obtain ⟨g0, g1, g2, g3, g4, g5, gr⟩ := q1
  refine ⟨⟨by rw [n0]; exact ⟨up_s, by omega⟩, by rw [e0 _ (by omega) (by omega), eh _ (by omega) (by omega)]; exact g1, by rw [e0 _ (by omega) (by omega), eh _ (by omega) (by omega)]; exact g2, by rw [e0 _ (by omega) (by omega), eh _ (by omega) (by omega)]; exact g3, by rw [e0 _ (by omega) (by omega), eh _ (by omega) (by omega)]; exact g4, by rw [e0 _ (by omega) (by omega), eh _ (by omega) (by omega)]; exact g5, fun q hq => ?_⟩, by rw [e0 _ (by omega) (by omega)]; exact p6, by rw [e0 _ (by omega) (by omega)]; exact p7⟩
  rw [n0] at hq
  by_cases z : q = r
  · subst z
    have e11 : up (up h (12 + 12 * q + 11) (nI c)) 0 (nI (q + 1)) (12 + 12 * q + 11) = nI c := by rw [up_n (by omega), up_s]
    refine ⟨?_, fun j hj => ?_, ?_, fun j hj => ?_, ?_⟩
    · rw [e0 _ (by omega) (by omega), eh _ (by omega) (by omega), q4, hN_of q4 (by omega)]
      exact ⟨rfl, q5, q6⟩
    · rw [eh _ (by omega) (by omega), hN_of q4 (by omega)] at hj
      rw [e0 _ (by omega) (by omega), eh _ (by omega) (by omega)]
      exact q7 j hj
    · rw [e0 _ (by omega) (by omega), eh _ (by omega) (by omega), q8, hN_of q8 (by omega)]
      exact ⟨rfl, hk, q9⟩
    · rw [eh _ (by omega) (by omega), hN_of q8 (by omega)] at hj
      rw [e0 _ (by omega) (by omega), eh _ (by omega) (by omega)]
      exact q10 j hj
    · rw [e11, hN_of e11 (by omega)]
      exact ⟨rfl, hc⟩
  · obtain ⟨r1, r2, r3, r4, r5⟩ := gr q (by omega)
    refine ⟨by rw [e0 _ (by omega) (by omega), eh _ (by omega) (by omega)]; exact r1, fun j hj => ?_, by rw [e0 _ (by omega) (by omega), eh _ (by omega) (by omega)]; exact r3, fun j hj => ?_, by rw [e0 _ (by omega) (by omega), eh _ (by omega) (by omega)]; exact r5⟩
    · rw [eh _ (by omega) (by omega)] at hj
      rw [e0 _ (by omega) (by omega), eh _ (by omega) (by omega)]; exact r2 j hj
    · rw [eh _ (by omega) (by omega)] at hj
      rw [e0 _ (by omega) (by omega), eh _ (by omega) (by omega)]; exact r4 j hj
theorem cdN_le : cdN b t ≤ 4 := by
  unfold cdN
  by_cases c1 : wdP b t 3
  · rw [cI_t c1]; omega
  · rw [cI_f c1]
    by_cases c2 : wdP b t 4
    · rw [cI_t c2]; omega
    · rw [cI_f c2]
      by_cases c3 : wdP b t 5
      · rw [cI_t c3]; omega
      · rw [cI_f c3]
        by_cases c4 : wdP b t 6
        · rw [cI_t c4]; omega
        · rw [cI_f c4]; omega
theorem cdN_n (hw : wdI b t = none) : cdN b t = 0 := by
  have z : ∀ w, w < 11 → ¬ wdP b t (kwI w) := fun w hw2 => fsS_none hw w hw2
  unfold cdN
  rw [cI_f (show ¬ wdP b t 3 from z 7 (by omega)), cI_f (show ¬ wdP b t 4 from z 8 (by omega)), cI_f (show ¬ wdP b t 5 from z 9 (by omega)), cI_f (show ¬ wdP b t 6 from z 10 (by omega))]
theorem cdN_s {w : Nat} (hw : wdI b t = some w) : cdN b t = if 7 ≤ w then w - 6 else 0 := by
  obtain ⟨h1, _⟩ := wdI_lt hw
  have h2 : wdP b t (kwI w) := (fsS_some hw).2.1
  have z : ∀ v, v < 11 → v ≠ w → ¬ wdP b t (kwI v) := fun v hv hne hp => by
    have := wdI_t hv hp
    rw [hw] at this
    injection this with e
    exact hne e.symm
  unfold cdN
  by_cases c7 : w = 7
  · subst c7; exact cI_t h2
  · rw [cI_f (show ¬ wdP b t 3 from z 7 (by omega) (by omega))]
    by_cases c8 : w = 8
    · subst c8; exact cI_t h2
    · rw [cI_f (show ¬ wdP b t 4 from z 8 (by omega) (by omega))]
      by_cases c9 : w = 9
      · subst c9; exact cI_t h2
      · rw [cI_f (show ¬ wdP b t 5 from z 9 (by omega) (by omega))]
        by_cases c10 : w = 10
        · subst c10; exact cI_t h2
        · rw [cI_f (show ¬ wdP b t 6 from z 10 (by omega) (by omega)), if_neg (by omega)]
end PRD
