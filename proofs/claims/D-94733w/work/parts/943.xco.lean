/-! PLAIN LAW: press: what its parts come to -/
set_option linter.unusedVariables false
section PRJ
variable {b : Nat → Int32} {n : Nat} {h h2 : Nat → Int32} {t t2 : TK}
theorem clP_ok {r L : Nat} (t0 : TK) : ∀ f k h t h2 t2, TKo b n t0 t → RLk h r L k → (1 ≤ k ∨ tkk t = 2) → clP b n r f h t k = Sum.inr (h2, t2) → TKo b n t0 t2 ∧ ∃ k2, 1 ≤ k2 ∧ RLk h2 r L k2 ∧ ∀ j, j < 12 + 12 * r → h2 j = h j
  | 0, k, h, t, h2, t2, ho, hR, hk, e => by rw [clP] at e; cases e
  | f + 1, k, h, t, h2, t2, ho, hR, hk, e => by
    rw [clP] at e
    by_cases c2 : tkk t = 2
    · rw [cI_t c2] at e
      by_cases cv : 1 ≤ tkv t ∧ tkv t ≤ 63
      · rw [cI_t cv] at e
        by_cases c3 : k = 3
        · rw [cI_t c3] at e; cases e
        · rw [cI_f c3] at e
          have hk3 := hR.2.2.2.2.2.2.2.2.1
          obtain ⟨y1, k2, y2, y3, y4⟩ := clP_ok t0 f (k + 1) _ _ h2 t2 ho.nx (hR.s (by omega) cv.1 cv.2) (Or.inl (by omega)) e
          exact ⟨y1, k2, y2, y3, fun j hj => by rw [y4 j hj, up_n (by omega), up_n (by omega)]⟩
      · rw [cI_f cv] at e; cases e
    · rw [cI_f c2] at e
      injection e with e
      injection e with e1 e2
      subst e1 e2
      exact ⟨ho, k, by omega, hR, fun _ _ => rfl⟩
theorem rlX_ok (hB : TBI h) (hw : TKw b n t) (e : rlX b n h t = Sum.inr (h2, t2)) : TBI h2 ∧ TKo b n t t2 ∧ ∀ k, 1 ≤ k → k < 12 → h2 k = h k := by
  have g0l := hB.1.1.2
  unfold rlX at e
  by_cases c24 : hN h 0 = 24
  · rw [cI_t c24] at e; cases e
  rw [cI_f c24] at e
  have o1 := TKo.n1 hw
  by_cases c1 : tkk (nxT b n t) = 1 ∧ tke (nxT b n t) - tkf (nxT b n t) ≤ 6
  rotate_left
  · rw [cI_f c1] at e; cases e
  rw [cI_t c1] at e
  by_cases cw : wdP b (nxT b n (nxT b n t)) 2
  rotate_left
  · rw [cI_f cw] at e; cases e
  rw [cI_t cw] at e
  by_cases c2 : tkk (nxT b n (nxT b n (nxT b n t))) = 2
  rotate_left
  · rw [cI_f c2] at e; cases e
  rw [cI_t c2] at e
  have hRL := hB.rl (b := b) (n := n) (t := nxT b n t) rfl (by omega) o1.1 c1.1 c1.2
  cases ec : clP b n (hN h 0) 5 (up (rlL h b (nxT b n t) (hN h 0)) (12 + 12 * hN h 0 + 7) (nI 0)) (nxT b n (nxT b n (nxT b n t))) 0 with
  | inl x => rw [ec] at e; cases e
  | inr x =>
    obtain ⟨h3, t3⟩ := x
    obtain ⟨y1, k2, y2, y3, y4⟩ := clP_ok t 5 0 _ _ h3 t3 o1.nx.nx hRL (Or.inr c2) ec
    rw [ec] at e
    have e : rlE b n (hN h 0) h3 t3 = Sum.inr (h2, t2) := e
    unfold rlE at e
    by_cases cl : tkk (cI (cdN b t3 = 0) t3 (nxT b n t3)) = 3 ∧ ∃ o, o < hN h 0 ∧ lkP (up h3 (12 + 12 * hN h 0 + 11) (nI (cdN b t3))) o (hN h 0)
    · rw [cI_t cl] at e; cases e
    · rw [cI_f cl] at e
      injection e with e
      injection e with e1 e2
      subst e1 e2
      refine ⟨y3.fin y2 cdN_le, ?_, fun k h1 h12 => ?_⟩
      · by_cases c0 : cdN b t3 = 0
        · rw [cI_t c0]; exact y1
        · rw [cI_f c0]; exact y1.nx
      · rw [up_n (by omega), up_n (by omega), y4 k (by omega), up_n (by omega)]
        unfold rlL
        rw [if_neg (by omega), if_neg (by omega)]
/-- what is told is what stands there -/
def TDh (td : Nat) (h : Nat → Int32) : Prop := td < 64 ∧ ∀ k, 1 ≤ k → k ≤ 3 → (btT td k ↔ h k ≠ nI 0)
theorem bt_1 : ∀ td : Fin 64, ∀ w : Fin 6, ¬ td.val / 2 ^ w.val % 2 = 1 → td.val + 2 ^ w.val < 64 ∧ ∀ k : Fin 6, (td.val + 2 ^ w.val) / 2 ^ k.val % 2 = 1 ↔ (k = w ∨ td.val / 2 ^ k.val % 2 = 1) := by decide +kernel
theorem bt_2 : ∀ td : Fin 64, ∀ w : Fin 6, (((nI td.val) >>> (nI w.val &&& nI 31)) &&& nI 1) = nI (td.val / 2 ^ w.val % 2) ∧ (¬ td.val / 2 ^ w.val % 2 = 1 → ((nI td.val) ||| (nI 1 <<< (nI w.val &&& nI 31))) = nI (td.val + 2 ^ w.val)) := by decide +kernel
theorem bt_a {td w k : Nat} (h1 : td < 64) (hw : w < 6) (hk : k < 6) (hn : ¬ btT td w) : td + 2 ^ w < 64 ∧ (btT (td + 2 ^ w) k ↔ (k = w ∨ btT td k)) := by
  obtain ⟨y1, y2⟩ := bt_1 ⟨td, h1⟩ ⟨w, hw⟩ hn
  refine ⟨y1, ?_⟩
  have := y2 ⟨k, hk⟩
  rw [Fin.mk.injEq] at this
  exact this
theorem TDh.s {td w v : Nat} (hT : TDh td h) (h1 : 1 ≤ w) (h5 : w ≤ 5) (hn : ¬ btT td w) (hv : 1 ≤ v) (hv2 : v < 1000) : TDh (td + 2 ^ w) (up h w (nI v)) := by
  obtain ⟨q1, q2⟩ := hT
  refine ⟨(bt_a q1 (k := 0) (by omega) (by omega) hn).1, fun k hk hk3 => ?_⟩
  rw [(bt_a q1 (by omega) (by omega) hn).2]
  by_cases z : k = w
  · subst z
    rw [up_s]
    exact ⟨fun _ y => by have := (nI_eq (by omega) (by omega)).mp y; omega, fun _ => Or.inl rfl⟩
  · rw [up_n z]
    exact ⟨fun y => (q2 k hk hk3).mp (by rcases y with y | y; exact absurd y z; exact y), fun y => Or.inr ((q2 k hk hk3).mpr y)⟩
theorem TBI.num {w v : Nat} (hB : TBI h) (h1 : 1 ≤ w) (h5 : w ≤ 5) (hlo : loT w ≤ v) (hhi : v ≤ hiT w) : TBI (up h w (nI v)) := by
  obtain ⟨⟨g0, g1, g2, g3, g4, g5, gr⟩, b6, b7⟩ := hB
  have g0l := g0.2
  have hv : v < 1000 := by unfold hiT at hhi; split at hhi <;> (try split at hhi) <;> omega
  have eo : ∀ k, k ≠ w → hN (up h w (nI v)) k = hN h k := fun k hk => hN_o hk
  have es : hN (up h w (nI v)) w = v := hN_s (by omega)
  have one : ∀ j B : Nat, (h j = nI (hN h j) ∧ hN h j ≤ B) → (w = j → v ≤ B) → (up h w (nI v) j = nI (hN (up h w (nI v)) j) ∧ hN (up h w (nI v)) j ≤ B) := fun j B hj hv => by
    by_cases z : w = j
    · subst z; rw [es, up_s]; exact ⟨rfl, hv rfl⟩
    · rw [eo j (fun y => z y.symm), up_n (fun y => z y.symm)]; exact hj
  have lo63 : ∀ j, w = j → (j = 1 ∨ j = 2 ∨ j = 3) → v ≤ 63 := fun j hj hj2 => by
    unfold hiT at hhi
    rw [if_neg (by omega), if_neg (by omega)] at hhi
    exact hhi
  refine ⟨⟨by rw [eo 0 (by omega), up_n (by omega)]; exact g0, one 1 63 g1 (fun z => lo63 1 z (by omega)), one 2 63 g2 (fun z => lo63 2 z (by omega)), one 3 63 g3 (fun z => lo63 3 z (by omega)), ?_, ?_, fun r hr => ?_⟩, by rw [up_n (by omega)]; exact b6, by rw [up_n (by omega)]; exact b7⟩
  · by_cases z : w = 4
    · subst z
      rw [es, up_s]
      exact ⟨rfl, hlo, hhi⟩
    · rw [eo 4 (fun y => z y.symm), up_n (fun y => z y.symm)]; exact g4
  · by_cases z : w = 5
    · subst z
      rw [es, up_s]
      exact ⟨rfl, hlo, hhi⟩
    · rw [eo 5 (fun y => z y.symm), up_n (fun y => z y.symm)]; exact g5
  · rw [eo 0 (by omega)] at hr
    obtain ⟨r1, r2, r3, r4, r5⟩ := gr r hr
    refine ⟨by rw [eo _ (by omega), up_n (by omega)]; exact r1, fun k hk => ?_, by rw [eo _ (by omega), up_n (by omega)]; exact r3, fun k hk => ?_, by rw [eo _ (by omega), up_n (by omega)]; exact r5⟩
    · rw [eo _ (by omega)] at hk
      rw [eo _ (by omega), up_n (by omega)]; exact r2 k hk
    · rw [eo _ (by omega)] at hk
      rw [eo _ (by omega), up_n (by omega)]; exact r4 k hk
theorem ptZ_ok {td td2 : Nat} (hB : TBI h) (hD : TDh td h) (hw : TKw b n t) (e : ptZ b n h td t = Sum.inr (h2, td2, t2)) : TBI h2 ∧ TDh td2 h2 ∧ TKo b n t t2 := by
  unfold ptZ at e
  by_cases c0 : wdI b t = some 0
  · rw [cI_t c0] at e
    cases ec : rlX b n h t with
    | inl x => rw [ec] at e; cases e
    | inr x =>
      obtain ⟨h3, t3⟩ := x
      rw [ec] at e
      have e : (Sum.inr (h3, td, t3) : PO) = Sum.inr (h2, td2, t2) := e
      injection e with e
      injection e with e1 e2
      injection e2 with e2 e3
      subst e1 e2 e3
      obtain ⟨y1, y2, y3⟩ := rlX_ok hB hw ec
      exact ⟨y1, ⟨hD.1, fun k hk hk3 => by rw [y3 k hk (by omega)]; exact hD.2 k hk hk3⟩, y2⟩
  · rw [cI_f c0] at e
    by_cases cw : ∃ w, wdI b t = some w ∧ 1 ≤ w ∧ w ≤ 5
    rotate_left
    · rw [cI_f cw] at e; cases e
    · rw [cI_t cw] at e
      obtain ⟨w, w1, w2, w3⟩ := cw
      rw [w1] at e
      have e : nuX b n h td t w = Sum.inr (h2, td2, t2) := e
      unfold nuX at e
      by_cases cb : btT td w
      · rw [cI_t cb] at e; cases e
      rw [cI_f cb] at e
      by_cases c2 : tkk (nxT b n t) = 2
      rotate_left
      · rw [cI_f c2] at e; cases e
      rw [cI_t c2] at e
      by_cases cv : loT w ≤ tkv (nxT b n t) ∧ tkv (nxT b n t) ≤ hiT w
      rotate_left
      · rw [cI_f cv] at e; cases e
      rw [cI_t cv] at e
      injection e with e
      injection e with e1 e2
      injection e2 with e2 e3
      subst e1 e2 e3
      have hlo : 1 ≤ loT w := by unfold loT; split <;> (try split) <;> omega
      have hv := (TKo.n1 hw).1.2.2.2.2.2.1 c2
      have hhi : hiT w ≤ 63 := by unfold hiT; split <;> (try split) <;> omega
      exact ⟨hB.num w2 w3 cv.1 cv.2, hD.s w2 w3 cb (by omega) (by omega), (TKo.n1 hw).nx⟩
theorem emT_ok : TBI emT ∧ TDh 0 emT := by
  have e : ∀ k, k ≠ 4 → k ≠ 5 → k ≠ 7 → emT k = nI 0 := fun k h1 h2 h3 => by unfold emT; rw [if_neg h1, if_neg h2, if_neg h3]
  have eh : ∀ k, k ≠ 4 → k ≠ 5 → k ≠ 7 → hN emT k = 0 := fun k h1 h2 h3 => hN_of (e k h1 h2 h3) (by omega)
  have e4 : emT 4 = nI 32 := rfl
  have e5 : emT 5 = nI 25 := rfl
  have h4 : hN emT 4 = 32 := hN_of e4 (by omega)
  have h5 : hN emT 5 = 25 := hN_of e5 (by omega)
  refine ⟨⟨⟨?_, ?_, ?_, ?_, ?_, ?_, fun r hr => ?_⟩, e 6 (by omega) (by omega) (by omega), rfl⟩, by omega, fun k h1 h3 => ?_⟩
  · rw [e 0 (by omega) (by omega) (by omega), eh 0 (by omega) (by omega) (by omega)]; exact ⟨rfl, by omega⟩
  · rw [e 1 (by omega) (by omega) (by omega), eh 1 (by omega) (by omega) (by omega)]; exact ⟨rfl, by omega⟩
  · rw [e 2 (by omega) (by omega) (by omega), eh 2 (by omega) (by omega) (by omega)]; exact ⟨rfl, by omega⟩
  · rw [e 3 (by omega) (by omega) (by omega), eh 3 (by omega) (by omega) (by omega)]; exact ⟨rfl, by omega⟩
  · rw [e4, h4]; exact ⟨rfl, by omega, by omega⟩
  · rw [e5, h5]; exact ⟨rfl, by omega, by omega⟩
  · rw [eh 0 (by omega) (by omega) (by omega)] at hr; omega
  · rw [e k (by omega) (by omega) (by omega)]
    unfold btT
    rw [Nat.zero_div]
    exact ⟨fun z => by omega, fun z => absurd rfl z⟩
end PRJ
