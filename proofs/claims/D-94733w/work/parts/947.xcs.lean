/-! PLAIN LAW: press: the component's loop, whole -/
set_option linter.unusedVariables false
section PRN
variable {a : Nat → Nat} {K K0 K1 K2 : XK} {ow : Nat → Nat} {u u0 u1 v : XS} {b h h2 : Nat → Int32} {n x0 tb : Nat} {t : TK}
theorem ptZ_0 {td : Nat} (e : wdI b t = some 0) : ptZ b n h td t = rlT td (rlX b n h t) := by unfold ptZ; rw [cI_t e]
theorem ptZ_w {td w : Nat} (e : wdI b t = some w) (h1 : 1 ≤ w) (h5 : w ≤ 5) : ptZ b n h td t = nuX b n h td t w := by
  unfold ptZ
  rw [e, cI_f (fun z => by injection z with z; omega), cI_t ⟨w, rfl, h1, h5⟩]
  rfl
theorem ptZ_n {td : Nat} (e : ∀ w, w ≤ 5 → wdI b t ≠ some w) : ptZ b n h td t = Sum.inl (flt t 2) := by
  unfold ptZ
  rw [cI_f (e 0 (by omega)), cI_f (fun z => by obtain ⟨w, z1, z2, z3⟩ := z; exact e w z3 z1)]
set_option maxHeartbeats 8000000 in
theorem x_part {td c s mc ms : Nat} {R : XK → XS → Nat → Nat → Prop} {P : XK → XS → Prop} {PX : Nat → XK → XS → Prop} (hB : BDx a K0 u0) (hp : PRx a b n K0 u0 x0 tb (tldI td 4) (tldI td 5) h t K u) (hw : TKw b n t) (hk0 : tkk t ≠ 0) (hTB : TBI h) (hD : TDh td h) (hc : c ≤ 4 * hN h 0) (hs : s ≤ 14 * hN h 0) (hmc : 100 ≤ mc) (hms : 350 ≤ ms)
    (hO : OPx a b n K0 u0 x0 tb 0 0 R PX (ptP b n h td t)) : xw8_table_L0_S P PX mc ms x0 tb R K u c s := by
  obtain ⟨hA, hT, hk, hTb, hx0, h5, h6⟩ := id hp
  obtain ⟨ktb, ftb, ntx⟩ := hp.ft
  have g0l := hTB.1.1.2
  have h4 := hw.2.2.2.1
  unfold ptP at hO
  unfold xw8_table_L0_S
  rw [hk.1]
  refine ⟨hT.1, fun z => absurd ((nI_eq (by omega) (by omega)).mp (show nI (tkk t) = nI 0 from z)) hk0, fun _ => x_isWord hT hk hw (by omega) (by omega) ?_⟩
  by_cases c0 : wdP b t 1
  · rw [ptZ_0 (wdI_t (w := 0) (by omega) c0)] at hO
    rw [cI_t c0]
    refine ⟨fun z => absurd z (by decide), fun _ => ⟨4, 14, by omega, by omega, x_rule hB hp hw c0.1 hTB (Nat.le_refl _) (Nat.le_refl _) ?_⟩⟩
    cases er : rlX b n h t with
    | inl e =>
      rw [er] at hO
      exact hO
    | inr x =>
      obtain ⟨h3, t3⟩ := x
      obtain ⟨y1, y2, y3⟩ := rlX_ok hTB hw er
      obtain ⟨y4, y5⟩ := rlX_0 hTB hw er
      rw [er] at hO
      have hO : OPx a b n K0 u0 x0 tb 0 0 R PX (cI (tkk t3 = 3) (Sum.inr (h3, td, nxT b n t3)) (Sum.inl (flt t3 2))) := hO
      intro K2 u2 hp2
      refine x_b168 hB hp2 y2.1 (fun c3 v hpv => ?_) (fun c3 => ?_)
      · rw [cI_t c3] at hO
        exact hO K2 v _ _ hpv (by omega) (by omega)
      · rw [cI_f c3] at hO
        exact hO
  rw [cI_f c0]
  refine ⟨fun _ => x_isWord hT hk hw (by omega) (by omega) ?_, fun z => absurd rfl z⟩
  by_cases c1 : wdP b t 7
  · rw [ptZ_w (wdI_t (w := 1) (by omega) c1) (by omega) (by omega)] at hO
    rw [cI_t c1]
    exact ⟨fun z => absurd z (by decide), fun _ => x_num3 (w := 1) hB hp hw hTB hD (by omega) (by omega) hc hs (by omega) (by omega) hO⟩
  rw [cI_f c1]
  refine ⟨fun _ => x_isWord hT hk hw (by omega) (by omega) ?_, fun z => absurd rfl z⟩
  by_cases c2 : wdP b t 8
  · rw [ptZ_w (wdI_t (w := 2) (by omega) c2) (by omega) (by omega)] at hO
    rw [cI_t c2]
    exact ⟨fun z => absurd z (by decide), fun _ => x_num3 (w := 2) hB hp hw hTB hD (by omega) (by omega) hc hs (by omega) (by omega) hO⟩
  rw [cI_f c2]
  refine ⟨fun _ => x_isWord hT hk hw (by omega) (by omega) ?_, fun z => absurd rfl z⟩
  by_cases c3 : wdP b t 9
  · rw [ptZ_w (wdI_t (w := 3) (by omega) c3) (by omega) (by omega)] at hO
    rw [cI_t c3]
    exact ⟨fun z => absurd z (by decide), fun _ => x_num3 (w := 3) hB hp hw hTB hD (by omega) (by omega) hc hs (by omega) (by omega) hO⟩
  rw [cI_f c3]
  refine ⟨fun _ => x_isWord hT hk hw (by omega) (by omega) ?_, fun z => absurd rfl z⟩
  by_cases cL : wdP b t 10
  · rw [ptZ_w (wdI_t (w := 4) (by omega) cL) (by omega) (by omega)] at hO
    rw [cI_t cL]
    refine ⟨fun z => absurd z (by decide), fun _ => ⟨0, 0, by omega, by omega, ?_⟩⟩
    unfold xw8_line
    rw [h5]
    refine ⟨hT.1, 0, 0, Nat.le_refl _, Nat.le_refl _, ?_⟩
    refine x_nums (w := 4) (mc := mc) (ms := ms) (c := c) (s := s) (P := P) hB hp hw hTB hD (by omega) (by omega) tldI_0 hc hs (fun r9 K9 u9 => K9 tb = (1, 5) ∧ ∀ u12 : XS, u12 = xsi u9 tb 5 r9 → ∀ u17 : XS, u17 = xsi u12 x0 5 (1 : Int32) → xw8_table_B168 R P PX mc ms x0 tb K9 u17 (c + 0) (s + 0)) hO (fun hnb x v hx1 hx2 hpv hk2 => ⟨ktb, fun u12 e12 u17 e17 => ?_⟩)
    subst e12 e17
    refine hk2 _ ?_ (by rw [cI_t rfl]; rfl)
    have q := (hpv.nmr (w := 4) hTB.1 (by omega) (by omega) hx1 (by omega)).tld (k := 5) (y := nI 1) (Or.inl rfl)
    rw [tldI_s hD.1 (by omega) (by omega) hnb, tldI_s hD.1 (by omega) (by omega) hnb, cI_t rfl, cI_f (by omega)]
    rw [cI_t rfl, cI_f (by omega)] at q
    exact q
  rw [cI_f cL]
  refine ⟨fun _ => x_isWord hT hk hw (by omega) (by omega) ?_, fun z => absurd rfl z⟩
  by_cases cP : wdP b t 11
  · rw [ptZ_w (wdI_t (w := 5) (by omega) cP) (by omega) (by omega)] at hO
    rw [cI_t cP]
    refine ⟨fun z => absurd z (by decide), fun _ => ⟨0, 0, by omega, by omega, ?_⟩⟩
    unfold xw8_page
    rw [h6]
    refine ⟨hT.1, 0, 0, Nat.le_refl _, Nat.le_refl _, ?_⟩
    refine x_nums (w := 5) (mc := mc) (ms := ms) (c := c) (s := s) (P := P) hB hp hw hTB hD (by omega) (by omega) tldI_0 hc hs (fun r9 K9 u9 => K9 tb = (1, 5) ∧ ∀ u12 : XS, u12 = xsi u9 tb 6 r9 → ∀ u17 : XS, u17 = xsi u12 x0 6 (1 : Int32) → xw8_table_B168 R P PX mc ms x0 tb K9 u17 (c + 0) (s + 0)) hO (fun hnb x v hx1 hx2 hpv hk2 => ⟨ktb, fun u12 e12 u17 e17 => ?_⟩)
    subst e12 e17
    refine hk2 _ ?_ (by rw [cI_f (by omega), cI_t rfl]; rfl)
    have q := (hpv.nmr (w := 5) hTB.1 (by omega) (by omega) hx1 (by omega)).tld (k := 6) (y := nI 1) (Or.inr rfl)
    rw [tldI_s hD.1 (by omega) (by omega) hnb, tldI_s hD.1 (by omega) (by omega) hnb, cI_t rfl, cI_f (by omega)]
    rw [cI_t rfl, cI_f (by omega)] at q
    exact q
  rw [cI_f cP]
  refine ⟨fun _ => ?_, fun z => absurd rfl z⟩
  rw [ptZ_n (fun w hw5 e => by
    have h2 := (wdI_iff (w := w) (by omega)).mp e
    have : w = 0 ∨ w = 1 ∨ w = 2 ∨ w = 3 ∨ w = 4 ∨ w = 5 := by omega
    rcases this with rfl | rfl | rfl | rfl | rfl | rfl
    · exact c0 h2
    · exact c1 h2
    · exact c2 h2
    · exact c3 h2
    · exact cL h2
    · exact cP h2)] at hO
  exact x_wrong hT hk hw hA hB hO
/-- the component's outcome of the whole -/
def OWx (a : Nat → Nat) (K0 : XK) (u0 : XS) (tb : Nat) (P : XK → XS → Prop) (PX : Nat → XK → XS → Prop) : Sum (Nat × Nat) (Nat → Int32) → Prop
  | Sum.inl e => ∀ K u, FLx a K0 u0 e K u → PX (a 11) K u
  | Sum.inr h => ∀ K u, AE K0 u0 K u → rTab K (owF K0) u tb h → TBI h → P K u
theorem x_tabs {mc ms : Nat} {P : XK → XS → Prop} {PX : Nat → XK → XS → Prop} (hB : BDx a K0 u0) (hmc : 100 ≤ mc) (hms : 350 ≤ ms) : ∀ f h td t K u c s, n - tke t + 1 ≤ f → PRx a b n K0 u0 x0 tb (tldI td 4) (tldI td 5) h t K u → TKw b n t → TBI h → TDh td h → c ≤ 4 * hN h 0 → s ≤ 14 * hN h 0 → OWx a K0 u0 tb P PX (psP b n f h td t) → xw8_table_L0 P PX mc ms x0 tb f K u c s := by
  intro f
  induction f with
  | zero => intro h td t K u c s hf; omega
  | succ f ih =>
    intro h td t K u c s hf hp hw hTB hD hc hs hO
    rw [psP] at hO
    rw [xw8_table_L0]
    show xw8_table_L0_S P PX mc ms x0 tb _ K u c s
    by_cases c0 : tkk t = 0
    · rw [cI_t c0] at hO
      unfold xw8_table_L0_S
      rw [hp.2.2.1.1]
      exact ⟨hp.2.1.1, fun _ => hO K u hp.1 hp.2.2.2.1 hTB, fun z => absurd (by rw [c0]; rfl) z⟩
    · rw [cI_f c0] at hO
      refine x_part hB hp hw c0 hTB hD hc hs hmc hms ?_
      cases ep : ptP b n h td t with
      | inl e =>
        rw [ep] at hO
        exact hO
      | inr x =>
        obtain ⟨h2, td2, t2⟩ := x
        rw [ep] at hO
        have ok : TBI h2 ∧ TDh td2 h2 ∧ TKw b n t2 ∧ n - tke t2 + 1 ≤ f := by
          unfold ptP at ep
          cases ex : ptZ b n h td t with
          | inl e => rw [ex] at ep; cases ep
          | inr y =>
            obtain ⟨h3, td3, t3⟩ := y
            obtain ⟨y1, y2, y3⟩ := ptZ_ok hTB hD hw ex
            rw [ex] at ep
            have ep : (cI (tkk t3 = 3) (Sum.inr (h3, td3, nxT b n t3)) (Sum.inl (flt t3 2)) : PO) = Sum.inr (h2, td2, t2) := ep
            by_cases c3 : tkk t3 = 3
            · rw [cI_t c3] at ep
              injection ep with ep
              injection ep with e1 e2
              injection e2 with e2 e3
              subst e1 e2 e3
              have q1 := y3.1.2.2.1 (by omega)
              have q2 := nxT_w (b := b) (n := n) y3.1
              have q3 := nxT_ge (b := b) (n := n) (t := t3)
              have q4 := q2.1
              have q5 := q2.2.1
              have q6 := y3.2
              have q7 := y3.1.2.1
              exact ⟨y1, y2, q2, by omega⟩
            · rw [cI_f c3] at ep; cases ep
        exact fun K2 u2 c2 s2 hp2 hc2 hs2 => ih h2 td2 t2 K2 u2 c2 s2 ok.2.2.2 hp2 ok.2.2.1 ok.1 ok.2.1 hc2 hs2 hO
end PRN
