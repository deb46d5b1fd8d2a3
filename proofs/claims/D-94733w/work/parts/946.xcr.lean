/-! PLAIN LAW: press: the component's loop -/
set_option linter.unusedVariables false
section PRM
variable {a : Nat → Nat} {K K0 K1 K2 : XK} {ow : Nat → Nat} {u u0 u1 v : XS} {b h h2 : Nat → Int32} {n x0 tb : Nat} {t : TK} {x5 x6 : Int32}
noncomputable def tldI (td w : Nat) : Int32 := cI (btT td w) (nI 1) (nI 0)
/-- the component's outcome of a part -/
def OPx (a : Nat → Nat) (b : Nat → Int32) (n : Nat) (K0 : XK) (u0 : XS) (x0 tb c0 s0 : Nat) (R : XK → XS → Nat → Nat → Prop) (PX : Nat → XK → XS → Prop) : PO → Prop
  | Sum.inl e => ∀ K u, FLx a K0 u0 e K u → PX (a 11) K u
  | Sum.inr (h, td, t) => ∀ K u c s, PRx a b n K0 u0 x0 tb (tldI td 4) (tldI td 5) h t K u → c ≤ 4 * hN h 0 → s ≤ 14 * hN h 0 → R K u c s
theorem tldI_s {td w k : Nat} (h1 : td < 64) (hw : w < 6) (hk : k < 6) (hn : ¬ btT td w) : tldI (td + 2 ^ w) k = cI (k = w) (nI 1) (tldI td k) := by
  unfold tldI
  by_cases z : k = w
  · rw [cI_t z, cI_t ((bt_a h1 hw hk hn).2.mpr (Or.inl z))]
  · rw [cI_f z]
    exact cI_c ((bt_a h1 hw hk hn).2.trans ⟨fun y => by rcases y with y | y; exact absurd y z; exact y, Or.inr⟩)
theorem tldI_0 {td w : Nat} : tldI td w = 0 ↔ ¬ btT td w := by
  unfold tldI
  by_cases z : btT td w
  · rw [cI_t z]; exact ⟨fun y => absurd y (by decide), fun y => absurd z y⟩
  · rw [cI_f z]; exact ⟨fun _ => z, fun _ => rfl⟩
theorem x_nums {w c s mc ms m9 w9 : Nat} {td : Nat} {has : Int32} {R : XK → XS → Nat → Nat → Prop} {P : XK → XS → Prop} {PX : Nat → XK → XS → Prop} (hB : BDx a K0 u0) (hp : PRx a b n K0 u0 x0 tb (tldI td 4) (tldI td 5) h t K u) (hw : TKw b n t) (hTB : TBI h) (hD : TDh td h) (h1 : 1 ≤ w) (hw5 : w ≤ 5) (hhas : has = 0 ↔ ¬ btT td w) (hc : c ≤ 4 * hN h 0) (hs : s ≤ 14 * hN h 0)
    (G : Int32 → XK → XS → Prop) (hO : OPx a b n K0 u0 x0 tb 0 0 R PX (sgZ b n (nuX b n h td t w)))
    (hG : ¬ btT td w → ∀ x v, 1 ≤ x → x ≤ 63 → PRx a b n K0 u0 x0 tb (tldI td 4) (tldI td 5) h (nxT b n (nxT b n t)) K v → (∀ v2, PRx a b n K0 u0 x0 tb (tldI (td + 2 ^ w) 4) (tldI (td + 2 ^ w) 5) (up h w (nI x)) (nxT b n (nxT b n t)) K v2 → v2 = (cI (w = 4) (xsi (xsi v tb (w + 1) (nI x)) x0 5 (nI 1)) (cI (w = 5) (xsi (xsi v tb (w + 1) (nI x)) x0 6 (nI 1)) (xsi v tb (w + 1) (nI x)))) → xw8_table_B168 R P PX mc ms x0 tb K v2 c s) → G (nI x) K v) : xw8_once x0 has (nI (loT w)) (nI (hiT w)) K u m9 w9 G PX := by
  have hlo : loT w < 100 ∧ 1 ≤ loT w := by unfold loT; split <;> (try split) <;> omega
  have hhi : hiT w ≤ 63 := by unfold hiT; split <;> (try split) <;> omega
  unfold nuX at hO
  refine x_once hB hp hw (by omega) (by omega) (fun hh => ?_) (fun hh y1 y2 y3 v hpv => ?_) (fun hh y1 y2 => ?_) (fun hh y1 => ?_)
  · have cb : btT td w := Classical.byContradiction (fun z => hh (hhas.mpr z))
    rw [cI_t cb] at hO
    exact hO
  · have cb := hhas.mp hh
    rw [cI_f cb, cI_t y1, cI_t ⟨y2, y3⟩] at hO
    have hO : OPx a b n K0 u0 x0 tb 0 0 R PX (cI (tkk (nxT b n (nxT b n t)) = 3) (Sum.inr (up h w (nI (tkv (nxT b n t))), td + 2 ^ w, nxT b n (nxT b n (nxT b n t)))) (Sum.inl (flt (nxT b n (nxT b n t)) 2))) := hO
    refine hG cb _ v (by omega) (by omega) hpv (fun v2 hp2 ev => ?_)
    refine x_b168 hB hp2 (nxT_w (nxT_w hw)) (fun c3 v3 hp3 => ?_) (fun c3 => ?_)
    · rw [cI_t c3] at hO
      exact hO K v3 c s hp3 (by rw [hN_o (by omega)]; exact hc) (by rw [hN_o (by omega)]; exact hs)
    · rw [cI_f c3] at hO
      exact hO
  · have cb := hhas.mp hh
    rw [cI_f cb, cI_t y1, cI_f y2] at hO
    exact hO
  · have cb := hhas.mp hh
    rw [cI_f cb, cI_f y1] at hO
    exact hO
/-- a letter-like number: capital, number, hyphen -/
theorem x_num3 {w c s mc ms : Nat} {td : Nat} {R : XK → XS → Nat → Nat → Prop} {P : XK → XS → Prop} {PX : Nat → XK → XS → Prop} (hB : BDx a K0 u0) (hp : PRx a b n K0 u0 x0 tb (tldI td 4) (tldI td 5) h t K u) (hw : TKw b n t) (hTB : TBI h) (hD : TDh td h) (h1 : 1 ≤ w) (hw3 : w ≤ 3) (hc : c ≤ 4 * hN h 0) (hs : s ≤ 14 * hN h 0) (hc2 : c ≤ mc) (hs2 : s ≤ ms)
    (hO : OPx a b n K0 u0 x0 tb 0 0 R PX (sgZ b n (nuX b n h td t w))) :
    K tb = (1, 5) ∧ ((xi u tb (w + 1)) < 0 → ∃ m50 w50, (c + m50) ≤ mc ∧ (s + w50) ≤ ms ∧ xw8_once x0 (0 : Int32) (1 : Int32) (63 : Int32) K u m50 w50 (fun r50 K50 u50 => ∀ u53 : XS, u53 = xsi u50 tb (w + 1) r50 → xw8_table_B168 R P PX mc ms x0 tb K50 u53 (c + m50) (s + w50)) (fun q50 K50 u50 => PX q50 K50 u50)) ∧
      (¬ (xi u tb (w + 1)) < 0 → ∃ m50 w50, (c + m50) ≤ mc ∧ (s + w50) ≤ ms ∧ xw8_once x0 (1 : Int32) (1 : Int32) (63 : Int32) K u m50 w50 (fun r50 K50 u50 => ∀ u53 : XS, u53 = xsi u50 tb (w + 1) r50 → xw8_table_B168 R P PX mc ms x0 tb K50 u53 (c + m50) (s + w50)) (fun q50 K50 u50 => PX q50 K50 u50)) := by
  obtain ⟨ktb, ftb, ntx⟩ := hp.ft
  obtain ⟨_, _, _, ⟨ra, _, _, _, _, _, f1, f2, f3, f4, _⟩, _⟩ := id hp
  have ef : xi u tb (w + 1) = noI (h w) := by
    have : w = 1 ∨ w = 2 ∨ w = 3 := by omega
    rcases this with rfl | rfl | rfl
    · exact f2
    · exact f3
    · exact f4
  have hn : h w = nI (hN h w) ∧ hN h w ≤ 63 := by
    have : w = 1 ∨ w = 2 ∨ w = 3 := by omega
    rcases this with rfl | rfl | rfl
    · exact hTB.1.2.1
    · exact hTB.1.2.2.1
    · exact hTB.1.2.2.2.1
  have hlt : noI (h w) < 0 ↔ ¬ btT td w := by
    rw [hD.2 w h1 hw3]
    unfold noI
    by_cases z : h w = nI 0
    · rw [if_pos z]
      exact ⟨fun _ y => y z, fun _ => by decide⟩
    · rw [if_neg z, hn.1, li_0, n_lt_f (by omega) (by omega), ← hn.1]
      exact ⟨fun y => y.elim, fun y => absurd z y⟩
  have hG : ∀ (G : Int32 → XK → XS → Prop), (∀ x K2 v, G x K2 v = ∀ u53 : XS, u53 = xsi v tb (w + 1) x → xw8_table_B168 R P PX mc ms x0 tb K2 u53 (c + 0) (s + 0)) → ¬ btT td w → ∀ x v, 1 ≤ x → x ≤ 63 → PRx a b n K0 u0 x0 tb (tldI td 4) (tldI td 5) h (nxT b n (nxT b n t)) K v → (∀ v2, PRx a b n K0 u0 x0 tb (tldI (td + 2 ^ w) 4) (tldI (td + 2 ^ w) 5) (up h w (nI x)) (nxT b n (nxT b n t)) K v2 → v2 = (cI (w = 4) (xsi (xsi v tb (w + 1) (nI x)) x0 5 (nI 1)) (cI (w = 5) (xsi (xsi v tb (w + 1) (nI x)) x0 6 (nI 1)) (xsi v tb (w + 1) (nI x)))) → xw8_table_B168 R P PX mc ms x0 tb K v2 c s) → G (nI x) K v := by
    intro G hGe hnb x v hx1 hx2 hpv hk
    rw [hGe]
    intro u53 e53
    subst e53
    refine hk _ ?_ (by rw [cI_f (by omega), cI_f (by omega)])
    rw [tldI_s hD.1 (by omega) (by omega) hnb, tldI_s hD.1 (by omega) (by omega) hnb, cI_f (by omega), cI_f (by omega)]
    exact hpv.nmr hTB.1 h1 (by omega) hx1 (by omega)
  have e1 : loT w = 1 := by unfold loT; rw [if_neg (by omega), if_neg (by omega)]
  have e2 : hiT w = 63 := by unfold hiT; rw [if_neg (by omega), if_neg (by omega)]
  rw [ef]
  refine ⟨ktb, fun cl => ⟨0, 0, hc2, hs2, ?_⟩, fun cl => ⟨0, 0, hc2, hs2, ?_⟩⟩
  · have := x_nums (w := w) (mc := mc) (ms := ms) (m9 := 0) (w9 := 0) (has := 0) (P := P) hB hp hw hTB hD h1 (by omega) ⟨fun _ => hlt.mp cl, fun _ => rfl⟩ hc hs (fun r50 K50 u50 => ∀ u53 : XS, u53 = xsi u50 tb (w + 1) r50 → xw8_table_B168 R P PX mc ms x0 tb K50 u53 (c + 0) (s + 0)) hO (hG (fun r50 K50 u50 => ∀ u53 : XS, u53 = xsi u50 tb (w + 1) r50 → xw8_table_B168 R P PX mc ms x0 tb K50 u53 (c + 0) (s + 0)) (fun _ _ _ => rfl))
    rw [e1, e2] at this
    exact this
  · have := x_nums (w := w) (mc := mc) (ms := ms) (m9 := 0) (w9 := 0) (has := 1) (P := P) hB hp hw hTB hD h1 (by omega) ⟨fun z => absurd z (by decide), fun z => absurd (hlt.mpr z) cl⟩ hc hs (fun r50 K50 u50 => ∀ u53 : XS, u53 = xsi u50 tb (w + 1) r50 → xw8_table_B168 R P PX mc ms x0 tb K50 u53 (c + 0) (s + 0)) hO (hG (fun r50 K50 u50 => ∀ u53 : XS, u53 = xsi u50 tb (w + 1) r50 → xw8_table_B168 R P PX mc ms x0 tb K50 u53 (c + 0) (s + 0)) (fun _ _ _ => rfl))
    rw [e1, e2] at this
    exact this
end PRM
