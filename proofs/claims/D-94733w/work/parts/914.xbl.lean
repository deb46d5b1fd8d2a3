/-! PLAIN LAW: answers 30: the fewest cells (what is counted) -/
set_option linter.unusedVariables false
def gt1 (c : Int32) : Nat := if inR c 65 90 then 1 else 0
theorem gt1_t {c : Int32} (z : inR c 65 90) : gt1 c = 1 := if_pos z
theorem gt1_f {c : Int32} (z : ¬ inR c 65 90) : gt1 c = 0 := if_neg z
theorem gt1_le {c : Int32} : gt1 c ≤ 1 := by unfold gt1; split <;> omega
def loM : Option Nat → Nat → Option Nat
  | none, c => some c
  | some d, c => some (min d c)
/-- a rule's turn -/
noncomputable def loF (h b : Nat → Int32) (g : Int32) (first last : Nat) (A : Nat → Option Nat) (p r : Nat) (best : Option Nat) : Option Nat :=
  cI (¬ outS g r ∧ stS h b r p first last) (match A (p + hN h (12 + 12 * r)) with | none => best | some c => loM best (c + hN h (12 + 12 * r + 7) + gt1 (b p))) best
theorem loF_o {h b : Nat → Int32} {g : Int32} {first last : Nat} {A : Nat → Option Nat} {p r : Nat} {best : Option Nat} (c : ¬ (¬ outS g r ∧ stS h b r p first last)) : loF h b g first last A p r best = best := cI_f c
theorem loF_n {h b : Nat → Int32} {g : Int32} {first last : Nat} {A : Nat → Option Nat} {p r : Nat} {best : Option Nat} (c : ¬ outS g r ∧ stS h b r p first last) (e : A (p + hN h (12 + 12 * r)) = none) : loF h b g first last A p r best = best := by
  unfold loF; rw [cI_t c, e]
theorem loF_s {h b : Nat → Int32} {g : Int32} {first last : Nat} {A : Nat → Option Nat} {p r d : Nat} {best : Option Nat} (c : ¬ outS g r ∧ stS h b r p first last) (e : A (p + hN h (12 + 12 * r)) = some d) : loF h b g first last A p r best = loM best (d + hN h (12 + 12 * r + 7) + gt1 (b p)) := by
  unfold loF; rw [cI_t c, e]
noncomputable def loG (h b : Nat → Int32) (g : Int32) (first last : Nat) (A : Nat → Option Nat) (p n : Nat) : Option Nat := it (loF h b g first last A p) none n
/-- the fewest from a place of a word on; j places are done, from the end back -/
noncomputable def loA (h b : Nat → Int32) (g : Int32) (first last : Nat) : Nat → Nat → Option Nat
  | 0, q => if q = last then some 0 else none
  | j + 1, q => if q = last - 1 - j then loG h b g first last (loA h b g first last j) (last - 1 - j) (hN h 0) else loA h b g first last j q
theorem loA_p {h b : Nat → Int32} {g : Int32} {first last j q : Nat} (c : q ≠ last - 1 - j) : loA h b g first last (j + 1) q = loA h b g first last j q := if_neg c
theorem loA_n {h b : Nat → Int32} {g : Int32} {first last j : Nat} : loA h b g first last (j + 1) (last - 1 - j) = loG h b g first last (loA h b g first last j) (last - 1 - j) (hN h 0) := if_pos rfl
theorem loA_last {h b : Nat → Int32} {g : Int32} {first last : Nat} : ∀ j, j ≤ last → loA h b g first last j last = some 0
  | 0, _ => if_pos rfl
  | j + 1, hj => by rw [loA_p (by omega)]; exact loA_last j (by omega)
theorem loA_up {h b : Nat → Int32} {g : Int32} {first last q : Nat} (hq : q < last) : ∀ j, j ≤ last → last ≤ q + j → loA h b g first last j q = loA h b g first last (last - q) q
  | 0, h1, h2 => by omega
  | j + 1, h1, h2 => by
    by_cases c : q = last - 1 - j
    · rw [show last - q = j + 1 by omega]
    · rw [loA_p c]; exact loA_up hq j (by omega) (by omega)
theorem loM_le {best : Option Nat} {c d B : Nat} (hb : ∀ x, best = some x → x ≤ B) (hc : c ≤ B) (e : loM best c = some d) : d ≤ B := by
  cases best with
  | none => have e : some c = some d := e; injection e with e; omega
  | some x =>
    have e : some (min x c) = some d := e
    injection e with e
    have := hb x rfl
    have := Nat.min_le_left x c
    omega
theorem loA_le {h b : Nat → Int32} {g : Int32} {first last : Nat} (hT : WT h) : ∀ j, j ≤ last → ∀ q c, loA h b g first last j q = some c → q ≤ last ∧ c ≤ 4 * (last - q)
  | 0, hj, q, c, e => by
    by_cases z : q = last
    · have e : (if q = last then some 0 else none) = some c := e
      rw [if_pos z] at e
      injection e with e
      omega
    · have e : (if q = last then some 0 else none) = some c := e
      rw [if_neg z] at e
      simp at e
  | j + 1, hj, q, c, e => by
    by_cases z : q = last - 1 - j
    · subst z
      rw [loA_n] at e
      have key := it_inv (f := loF h b g first last (loA h b g first last j) (last - 1 - j)) (a := none) (fun _ best => ∀ x, best = some x → x ≤ 4 * (last - (last - 1 - j))) (fun x hx => by simp at hx) (hN h 0) (fun r best hr hb x hx => by
        by_cases co : ¬ outS g r ∧ stS h b r (last - 1 - j) first last
        · cases ea : loA h b g first last j (last - 1 - j + hN h (12 + 12 * r)) with
          | none => rw [loF_n co ea] at hx; exact hb x hx
          | some d =>
            rw [loF_s co ea] at hx
            obtain ⟨k1, k2⟩ := loA_le hT j (by omega) _ _ ea
            obtain ⟨⟨_, l1, l6⟩, _, ⟨_, c1, c3⟩, _, _⟩ := hT.2.2.2.2.2.2 r hr
            have := gt1_le (c := b (last - 1 - j))
            exact loM_le hb (by omega) hx
        · rw [loF_o co] at hx; exact hb x hx)
      exact ⟨by omega, key c e⟩
    · rw [loA_p z] at e
      exact loA_le hT j (by omega) q c e
theorem loG_some {h b : Nat → Int32} {g : Int32} {first last p r c : Nat} {A : Nat → Option Nat} (co : ¬ outS g r ∧ stS h b r p first last) (e : A (p + hN h (12 + 12 * r)) = some c) : ∀ n, r < n → ∃ d, loG h b g first last A p n = some d
  | 0, hr => by omega
  | n + 1, hr => by
    unfold loG
    rw [it_s]
    by_cases z : r = n
    · subst z
      rw [loF_s co e]
      cases it (loF h b g first last A p) none r with
      | none => exact ⟨_, rfl⟩
      | some d => exact ⟨_, rfl⟩
    · obtain ⟨d, hd⟩ := loG_some co e n (by omega)
      unfold loG at hd
      rw [hd]
      by_cases c2 : ¬ outS g n ∧ stS h b n p first last
      · cases ea : A (p + hN h (12 + 12 * n)) with
        | none => rw [loF_n c2 ea]; exact ⟨_, rfl⟩
        | some x => rw [loF_s c2 ea]; exact ⟨_, rfl⟩
      · rw [loF_o c2]; exact ⟨_, rfl⟩
/-- a word that is set has a fewest -/
theorem loA_ok {h b : Nat → Int32} {g : Int32} {first last : Nat} (hT : WT h) : ∀ f p w, p ≤ last → last < p + f → (wdS h b g first last f p w).1 = none → ∃ c, loA h b g first last (last - p) p = some c
  | 0, p, w, hp, hf, he => by omega
  | f + 1, p, w, hp, hf, he => by
    unfold wdS at he
    by_cases c : last ≤ p
    · have : p = last := by omega
      subst this
      exact ⟨0, loA_last _ (by omega)⟩
    · rw [if_neg c] at he
      cases ht : tkS h b g p first last (hN h 0) with
      | none => rw [ht] at he; simp at he
      | some r =>
        rw [ht] at he
        simp only at he
        obtain ⟨hr, ho, hst⟩ := tkS_some _ _ ht
        obtain ⟨⟨_, l1, l6⟩, _⟩ := hT.2.2.2.2.2.2 r hr
        have hpl : p + hN h (12 + 12 * r) ≤ last := hst.1
        have hn : ∃ c, loA h b g first last (last - (p + hN h (12 + 12 * r))) (p + hN h (12 + 12 * r)) = some c := by
          by_cases cg : inR (b p) 65 90
          · rw [if_pos cg] at he
            by_cases ch : h 1 = nI 0
            · rw [if_pos ch] at he; simp at he
            · rw [if_neg ch] at he
              exact loA_ok hT f _ _ hpl (by omega) he
          · rw [if_neg cg] at he
            exact loA_ok hT f _ _ hpl (by omega) he
        obtain ⟨d, hd⟩ := hn
        have e2 : loA h b g first last (last - p - 1) (p + hN h (12 + 12 * r)) = some d := by
          rcases Nat.lt_or_ge (p + hN h (12 + 12 * r)) last with q | q
          · rw [loA_up q (last - p - 1) (by omega) (by omega), hd]
          · have : p + hN h (12 + 12 * r) = last := by omega
            rw [this] at hd ⊢
            rw [loA_last _ (by omega)] at hd ⊢
            exact hd
        obtain ⟨x, hx⟩ := loG_some ⟨ho, hst⟩ e2 _ hr
        refine ⟨x, ?_⟩
        rw [show last - p = (last - p - 1) + 1 by omega]
        have := loA_n (h := h) (b := b) (g := g) (first := first) (last := last) (j := last - p - 1)
        rw [show last - 1 - (last - p - 1) = p by omega] at this
        rw [this]
        exact hx
/-- great letters -/
def gtN (b : Nat → Int32) : Nat → Nat → Nat
  | 0, p => 0
  | d + 1, p => gt1 (b p) + gtN b d (p + 1)
theorem gtN_add {b : Nat → Int32} : ∀ d e p, gtN b (d + e) p = gtN b d p + gtN b e (p + d)
  | 0, e, p => by rw [Nat.zero_add]; show _ = 0 + _; rw [Nat.zero_add, Nat.add_zero]
  | d + 1, e, p => by
    rw [show d + 1 + e = (d + e) + 1 by omega]
    show gt1 (b p) + gtN b (d + e) (p + 1) = gt1 (b p) + gtN b d (p + 1) + _
    rw [gtN_add d e (p + 1), show p + 1 + d = p + (d + 1) by omega]
    omega
theorem gtN_z {b : Nat → Int32} : ∀ d p, (∀ k, k < d → ¬ inR (b (p + k)) 65 90) → gtN b d p = 0
  | 0, p, hz => rfl
  | d + 1, p, hz => by
    show gt1 (b p) + _ = 0
    have h0 : ¬ inR (b p) 65 90 := by have := hz 0 (by omega); rw [Nat.add_zero] at this; exact this
    rw [gt1_f h0, gtN_z d (p + 1) (fun k hk => by have := hz (k + 1) (by omega); rw [show p + (k + 1) = p + 1 + k by omega] at this; exact this)]
theorem gtN_rule {b : Nat → Int32} {p l last : Nat} (h1 : 1 ≤ l) (h2 : p + l ≤ last) (hz : ∀ k, 0 < k → k < l → ¬ inR (b (p + k)) 65 90) : gtN b (last - p) p = gt1 (b p) + gtN b (last - (p + l)) (p + l) := by
  obtain ⟨l, rfl⟩ : ∃ l', l = l' + 1 := ⟨l - 1, by omega⟩
  rw [show last - p = (l + (last - (p + (l + 1)))) + 1 by omega]
  show gt1 (b p) + gtN b (l + (last - (p + (l + 1)))) (p + 1) = _
  rw [gtN_add, gtN_z l (p + 1) (fun k hk => by have := hz (k + 1) (by omega) (by omega); rw [show p + (k + 1) = p + 1 + k by omega] at this; exact this), Nat.zero_add, show p + 1 + l = p + (l + 1) by omega]
theorem gtN_le {b : Nat → Int32} : ∀ d p, gtN b d p ≤ d
  | 0, p => Nat.le_refl _
  | d + 1, p => by
    show gt1 (b p) + _ ≤ _
    have := gtN_le (b := b) d (p + 1)
    have := gt1_le (c := b p)
    omega
theorem swS_11 {h w : Nat → Int32} {r : Nat} (hT : WT h) (hS : SI h w) (hr : r < hN h 0) (h8 : hN w 8 + 3 ≤ 1250) : hN (swS h r w) 11 = hN w 11 + hN h (12 + 12 * r + 7) := by
  obtain ⟨_, _, ⟨_, c1, c3⟩, _, _⟩ := hT.2.2.2.2.2.2 r hr
  have := hS.2.2.2.1
  unfold swS
  exact hN_s (by omega)
/-- a word's account -/
theorem wd_acc {h b : Nat → Int32} {g : Int32} {first last : Nat} (hT : WT h) (hl : last ≤ 300) : ∀ f p w, SI h w → hN w 8 ≤ 4 * p → hN w 9 ≤ 150 → p ≤ last → last < p + f → (wdS h b g first last f p w).1 = none → hN (wdS h b g first last f p w).2 8 + hN w 11 = hN w 8 + hN (wdS h b g first last f p w).2 11 + gtN b (last - p) p
  | 0, p, w, hS, h8, h9, hp, hf, he => by omega
  | f + 1, p, w, hS, h8, h9, hp, hf, he => by
    unfold wdS at he ⊢
    by_cases c : last ≤ p
    · rw [if_pos c] at he ⊢
      rw [show last - p = 0 by omega]
      rfl
    · rw [if_neg c] at he ⊢
      cases ht : tkS h b g p first last (hN h 0) with
      | none => rw [ht] at he; simp at he
      | some r =>
        rw [ht] at he
        simp only at he ⊢
        obtain ⟨hr, _, hst⟩ := tkS_some _ _ ht
        have hT2 := hT
        obtain ⟨⟨_, g0⟩, ⟨g1, g1l⟩, _, _, _, _, gr⟩ := hT2
        obtain ⟨⟨_, l1, l6⟩, _, ⟨_, c1, c3⟩, gc, _⟩ := gr r hr
        have hpl : p + hN h (12 + 12 * r) ≤ last := hst.1
        have eg := gtN_rule (b := b) l1 hpl (fun k h0 hk => (hst.2.1 k hk).2 h0)
        by_cases cg : inR (b p) 65 90
        · rw [if_pos cg] at he ⊢
          rw [gt1_t cg] at eg
          by_cases ch : h 1 = nI 0
          · rw [if_pos ch] at he; simp at he
          · rw [if_neg ch] at he ⊢
            obtain ⟨i1, i2, i3, i4⟩ := hS.set (v := h 1) (by0 := iM) (by omega) h9 g1 g1l (Or.inl rfl)
            obtain ⟨j1, j2, j3⟩ := i1.word1 hT hr (by omega) (by omega)
            have j4 := swS_11 hT i1 hr (by omega)
            have := wd_acc hT hl f _ _ j1 (by omega) (by omega) hpl (by omega) he
            omega
        · rw [if_neg cg] at he ⊢
          rw [gt1_f cg] at eg
          obtain ⟨j1, j2, j3⟩ := hS.word1 hT hr (by omega) h9
          have j4 := swS_11 hT hS hr (by omega)
          have := wd_acc hT hl f _ _ j1 (by omega) (by omega) hpl (by omega) he
          omega
/-- the words' fewest and the figures' cells, from a place on -/
def FW (h b : Nat → Int32) (g : Int32) (bn : Nat) : Nat → Nat → Nat → Nat → Prop
  | 0, _, _, _ => False
  | f + 1, p, W, F => (bn ≤ p ∧ W = 0 ∧ F = 0) ∨
    (p < bn ∧ isL (b p) ∧ ∃ c V, loA h b g p (weS b bn p) (weS b bn p - p) p = some c ∧ W = c + V ∧ FW h b g bn f (weS b bn p) V F) ∨
    (p < bn ∧ ¬ isL (b p) ∧ inR (b p) 48 57 ∧ ∃ r G, jsS h (fgL (b p)) g = some r ∧ F = hN h (12 + 12 * r + 7) + (if p = 0 ∨ ¬ inR (b (p - 1)) 48 57 then 1 else 0) + G ∧ FW h b g bn f (p + 1) W G) ∨
    (p < bn ∧ ¬ isL (b p) ∧ ¬ inR (b p) 48 57 ∧ FW h b g bn f (p + 1) W F)
/-- a figure's account -/
theorem dg_acc {h b : Nat → Int32} {g : Int32} {bn : Nat} (hT : WT h) (hbn : bn ≤ 300) (hb : ∀ k, bn ≤ k → b k = nI 32) : ∀ f p w, SI h w → hN w 8 + 3 ≤ 4 * p + 4 → hN w 9 ≤ 150 → p ≤ bn → bn < p + f → (dgS h b g f p w).1 = none → 0 < p → inR (b (p - 1)) 48 57 →
    ∃ D, hN (dgS h b g f p w).2.2 8 = hN w 8 + D ∧ hN (dgS h b g f p w).2.2 11 = hN w 11 ∧ hN (dgS h b g f p w).2.2 9 = hN w 9 ∧ ∀ e W F, FW h b g bn e (dgS h b g f p w).2.1 W F → ∃ e2, FW h b g bn e2 p W (D + F)
  | 0, p, w, hS, h8, h9, hp, hf, he, h0, hd => by omega
  | f + 1, p, w, hS, h8, h9, hp, hf, he, h0, hd => by
    unfold dgS at he ⊢
    by_cases c : inR (b p) 48 57
    · rw [if_pos c] at he ⊢
      have hpb : p < bn := by
        rcases Nat.lt_or_ge p bn with q | q
        · exact q
        · rw [hb p q] at c; unfold inR at c; rw [n_toInt (by omega)] at c; omega
      cases ht : jsS h (fgL (b p)) g with
      | none => rw [ht] at he; simp at he
      | some r =>
        rw [ht] at he
        simp only at he ⊢
        obtain ⟨hr, _⟩ := fsS_some ht
        obtain ⟨_, _, ⟨_, c1, c3⟩, _, _⟩ := hT.2.2.2.2.2.2 r hr
        obtain ⟨i1, i2, i3, i4⟩ := hS.rule hT hr (by omega) h9
        obtain ⟨D, k1, k2, k3, k4⟩ := dg_acc hT hbn hb f (p + 1) (srS h r w) i1 (by omega) (by omega) (by omega) (by omega) he (by omega) (by rw [Nat.add_sub_cancel]; exact c)
        refine ⟨hN h (12 + 12 * r + 7) + D, by omega, by omega, by omega, fun e W F hF => ?_⟩
        obtain ⟨e2, h2⟩ := k4 e W F hF
        refine ⟨e2 + 1, Or.inr (Or.inr (Or.inl ⟨hpb, fun z => notD_L z c, c, r, D + F, ht, ?_, h2⟩))⟩
        rw [if_neg (fun z => z.elim (fun z => by omega) (fun z => z hd))]
        omega
    · rw [if_neg c] at he ⊢
      exact ⟨0, rfl, rfl, rfl, fun e W F hF => ⟨e, by rw [Nat.zero_add]; exact hF⟩⟩
theorem pi_acc {h b : Nat → Int32} {p : Nat} {w : Nat → Int32} (hp : p < 300) (hT : TI h b p w) : hN (piS b p w) 8 + (hN w 9 - 1) = hN w 8 + (hN (piS b p w) 9 - 1) ∧ hN (piS b p w) 11 = hN w 11 := by
  obtain ⟨t1, t2, t3, t4, t5, t6, t7⟩ := hT
  have e11 : ∀ v : Nat → Int32, hN (nqS v) 11 = hN v 11 := fun v => by unfold nqS; rw [hN_o (by omega), hN_o (by omega)]
  have e8 : ∀ v : Nat → Int32, hN (nqS v) 8 = hN v 8 := fun v => by unfold nqS; rw [hN_o (by omega), hN_o (by omega)]
  have e9 : ∀ v : Nat → Int32, hN v 9 ≤ 151 → hN (nqS v) 9 = hN v 9 + 1 := fun v hv => by unfold nqS; rw [hN_s (by omega)]
  unfold piS
  by_cases c : p = 0 ∨ isB (b (p - 1))
  · rw [if_pos c]
    unfold npS
    by_cases c2 : 0 < hN w 9
    · rw [if_pos c2]
      obtain ⟨i1, i2, i3, i4⟩ := t1.set (v := nI 0) (by0 := iM) (c := 0) (by omega) (by omega) rfl (by omega) (Or.inl rfl)
      rw [e8, e11, e9 _ (by omega), i2, i3, i4]
      exact ⟨by omega, rfl⟩
    · rw [if_neg c2]
      rw [e8, e11, e9 _ (by omega)]
      exact ⟨by omega, rfl⟩
  · rw [if_neg c]
    exact ⟨rfl, rfl⟩
theorem notG_B {c : Int32} (h : ¬ isL c) : ¬ inR c 65 90 := fun z => h (Or.inl z)
/-- the whole account -/
theorem sa_acc {h b : Nat → Int32} {g : Int32} {bn : Nat} (hT : WT h) : ∀ f p w, WB b bn w → TI h b p w → p ≤ bn → bn < p + f → (p = 0 ∨ ¬ inR (b (p - 1)) 48 57 ∨ ¬ inR (b p) 48 57) → (saS h b g bn f p w).1 = none →
    ∃ e W F, FW h b g bn e p W F ∧ hN (saS h b g bn f p w).2 8 + hN w 11 + (hN w 9 - 1) = hN w 8 + hN (saS h b g bn f p w).2 11 + (hN (saS h b g bn f p w).2 9 - 1) + gtN b (bn - p) p + F
  | 0, p, w, hB, hI, hp, hlf, hq, he => by omega
  | f + 1, p, w, hB, hI, hp, hlf, hq, he => by
    have hbn := hB.2.1
    unfold saS at he ⊢
    by_cases c : bn ≤ p
    · rw [if_pos c] at he ⊢
      refine ⟨1, 0, 0, Or.inl ⟨c, rfl, rfl⟩, ?_⟩
      rw [show bn - p = 0 by omega]
      show hN w 8 + hN w 11 + (hN w 9 - 1) = hN w 8 + hN w 11 + (hN w 9 - 1) + 0 + 0
      omega
    · rw [if_neg c] at he ⊢
      by_cases cb : isB (b p)
      · rw [if_pos cb] at he ⊢
        have nL : ¬ isL (b p) := fun z => notB_L z cb
        have nD : ¬ inR (b p) 48 57 := fun z => notB_D z cb
        obtain ⟨e, W, F, k1, k2⟩ := sa_acc hT f (p + 1) w hB (hI.blank cb) (by omega) (by omega) (Or.inr (Or.inl (by rw [Nat.add_sub_cancel]; exact nD))) he
        refine ⟨e + 1, W, F, Or.inr (Or.inr (Or.inr ⟨by omega, nL, nD, k1⟩)), ?_⟩
        rw [show bn - p = (bn - (p + 1)) + 1 by omega]
        show _ = _ + (gt1 (b p) + _) + F
        rw [gt1_f (notG_B nL)]
        omega
      · rw [if_neg cb] at he ⊢
        by_cases cl : isL (b p)
        · rw [if_neg (fun z => z.1 cl), if_pos cl] at he ⊢
          have hle := weS_le (b := b) (bn := bn) (p := p) (by omega)
          have hlt := weS_lt hB.2.2.2 cl
          obtain ⟨i1, i2, i3, i4, i5⟩ := hI.pi (by omega)
          obtain ⟨a1, a2⟩ := pi_acc (by omega) hI
          cases hw : wdS h b g p (weS b bn p) (weS b bn p - p + 1) p (piS b p w) with
          | mk e v =>
            rw [hw] at he
            cases e with
            | none =>
              obtain ⟨k1, k2⟩ := TI.word hT hB hI (by omega) cl hw
              have e1 : (wdS h b g p (weS b bn p) (weS b bn p - p + 1) p (piS b p w)).1 = none := by rw [hw]
              obtain ⟨x, hx⟩ := loA_ok hT (weS b bn p - p + 1) p (piS b p w) (by omega) (by omega) e1
              have y1 := wd_acc hT (by omega) (weS b bn p - p + 1) p (piS b p w) i1 i2 (by omega) (by omega) (by omega) e1
              have y2 := (SI.word hT (by omega) (weS b bn p - p + 1) p (piS b p w) i1 i2 (by omega) (by omega) (by omega) e1).2.2.1
              rw [hw] at y1 y2
              simp only at y1 y2 he ⊢
              obtain ⟨e, W, F, m1, m2⟩ := sa_acc hT f (weS b bn p) v k2 k1 hle (by omega) (Or.inr (Or.inl (fun z => notD_L (weS_in (b := b) (bn := bn) (p := p) (q := weS b bn p - 1) (by omega) (by omega)) z))) he
              refine ⟨e + 1, x + W, F, Or.inr (Or.inl ⟨by omega, cl, x, W, hx, rfl, m1⟩), ?_⟩
              have y3 := gtN_add (b := b) (weS b bn p - p) (bn - weS b bn p) p
              rw [show weS b bn p - p + (bn - weS b bn p) = bn - p by omega, show p + (weS b bn p - p) = weS b bn p by omega] at y3
              omega
            | some e => simp at he
        · by_cases cd : inR (b p) 48 57
          · rw [if_neg (fun z => z.2 cd), if_neg cl] at he ⊢
            by_cases cn : h 2 = nI 0
            · rw [if_pos cn] at he; simp at he
            · rw [if_neg cn] at he ⊢
              obtain ⟨i1, i2, i3, i4, i5⟩ := hI.pi (by omega)
              obtain ⟨a1, a2⟩ := pi_acc (by omega) hI
              obtain ⟨_, _, ⟨g2, g2l⟩, _⟩ := id hT
              obtain ⟨s1, s2, s3, s4⟩ := i1.set (v := h 2) (by0 := iM) (by omega) (by omega) g2 g2l (Or.inl rfl)
              cases hd : dgS h b g (bn - p + 1) p (sS (h 2) iM (piS b p w)) with
              | mk e2 qv =>
                cases qv with
                | mk q v =>
                  rw [hd] at he
                  cases e2 with
                  | some e => simp at he
                  | none =>
                    simp only at he ⊢
                    obtain ⟨k1, k2, k3, k4⟩ := TI.figure hT hB hI (by omega) cd hd
                    have hpv : p = 0 ∨ ¬ inR (b (p - 1)) 48 57 := by
                      rcases hq with z | z | z
                      · exact Or.inl z
                      · exact Or.inr z
                      · exact absurd cd z
                    have e9 := (SI.digits (b := b) (g := g) hT hbn hB.2.2.2 (bn - p + 1) p (sS (h 2) iM (piS b p w)) s1 (by omega) (by omega) (by omega) (by omega) (by rw [hd])).2.2.2.2.2.2.2.2
                    rw [hd] at e9
                    have e9 : ¬ inR (b q) 48 57 := e9
                    obtain ⟨e, W, F, m1, m2⟩ := sa_acc hT f q v k2 k1 k4 (by omega) (Or.inr (Or.inr e9)) he
                    have hin : ∀ k, p ≤ k → k < q → inR (b k) 48 57 := fun k h1 h2 => dgS_in (bn - p + 1) p (sS (h 2) iM (piS b p w)) k h1 (by rw [hd]; exact h2)
                    unfold dgS at hd
                    rw [if_pos cd] at hd
                    cases ht : jsS h (fgL (b p)) g with
                    | none => rw [ht] at hd; simp at hd
                    | some r =>
                      rw [ht] at hd
                      simp only at hd
                      obtain ⟨hr, _⟩ := fsS_some ht
                      obtain ⟨_, _, ⟨_, c1, c3⟩, _, _⟩ := hT.2.2.2.2.2.2 r hr
                      obtain ⟨j1, j2, j3, j4⟩ := s1.rule hT hr (by omega) (by omega)
                      obtain ⟨D, d1, d2, d3, d4⟩ := dg_acc (b := b) (g := g) hT hbn hB.2.2.2 (bn - p) (p + 1) _ j1 (by omega) (by omega) (by omega) (by omega) (by rw [hd]) (by omega) (by rw [Nat.add_sub_cancel]; exact cd)
                      rw [hd] at d1 d2 d3 d4
                      simp only at d1 d2 d3 d4
                      obtain ⟨e2, h2⟩ := d4 e W F m1
                      refine ⟨e2 + 1, W, hN h (12 + 12 * r + 7) + 1 + (D + F), Or.inr (Or.inr (Or.inl ⟨by omega, cl, cd, r, D + F, ht, by rw [if_pos hpv], h2⟩)), ?_⟩
                      have y3 := gtN_add (b := b) (q - p) (bn - q) p
                      rw [show q - p + (bn - q) = bn - p by omega, show p + (q - p) = q by omega] at y3
                      have y4 : gtN b (q - p) p = 0 := gtN_z _ _ (fun k hk z => notD_L (Or.inl z) (hin (p + k) (by omega) (by omega)))
                      omega
          · rw [if_pos ⟨cl, cd⟩] at he; simp at he
