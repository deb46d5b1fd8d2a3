/-! PLAIN LAW: press: a rule, the component, from its first word on -/
set_option linter.unusedVariables false
section PRI
variable {a : Nat → Nat} {K K0 K1 K2 : XK} {u u0 u1 v : XS} {b h h2 : Nat → Int32} {n x0 tb : Nat} {t : TK}
/-- a rule's letters -/
def LTx (la L r : Nat) (h : Nat → Int32) (K1 K : XK) (u : XS) : Prop := K la = (3, L) ∧ (K1 la).1 = 0 ∧ ∀ j, j < L → xi u la j = nI (96 + hN h (12 + 12 * r + 1 + j))
theorem z0_cl : (0 : Int32).toNatClampNeg = 0 := rfl
theorem z0_lt : ¬ (0 : Int32) < 0 := by decide
set_option maxHeartbeats 8000000 in
theorem x_r116 {x5 x6 : Int32} {la row r L : Nat} {mc ms : Nat} {P : XK → XS → Prop} {PX : Nat → XK → XS → Prop} (hB : BDx a K0 u0) (hA1 : AE K0 u0 K1 u1) (hT1 : TXx a b n x0 K1 u1) (hx0 : (K0 x0).1 = 0) (h5 : xi u1 x0 5 = x5) (h6 : xi u1 x0 6 = x6) (h0 : Nat → Int32) (hTb : rTab K1 (owF K0) u1 tb h0) (hW0 : WT h0) (hr0 : hN h0 0 = r) (frow : (K1 row).1 = 0) :
    ∀ f k h t K u c s, 4 ≤ f + k → AXt x0 K1 u1 K u → TKx x0 u t → TKw b n t → tkk t = 2 → (∀ j, j < 12 + 12 * r → h j = h0 j) → RLk h r L k → LTx la L r h K1 K u → K row = (2, 3) → (∀ j, j < k → xi u row j = h (12 + 12 * r + 7 + 1 + j)) → c + 2 ≤ mc → s + 5 ≤ ms → OCx a b n K0 u0 x0 tb x5 x6 P PX (rlM b n r (clP b n r (f + 1) h t k)) → xw8_rule_L116 P PX mc ms x0 tb la row (f + 1) (nI k) K u c s := by
  intro f
  induction f with
  | zero =>
    intro k h t K u c s hf hX hk hw c2 hh hR
    have := hR.2.2.2.2.2.2.2.2.1
    omega
  | succ f ih =>
    intro k h t K u c s hf hX hk hw c2 hh hR hL krow hrow hc hs hO
    have hT := hX.tx hT1
    have hA := hX.ae hA1 hx0
    have hx1 : K1 x0 = (1, 8) := hT1.1
    have hrx : row ≠ x0 := fun z => by rw [z, hT.1] at krow; cases krow
    obtain ⟨kl, fl, vl⟩ := hL
    have hlx : la ≠ x0 := fun z => by rw [z, hT.1] at kl; cases kl
    have hlr : la ≠ row := fun z => by rw [z, krow] at kl; cases kl
    have hr24 := hR.2.2.1
    have hk3 := hR.2.2.2.2.2.2.2.2.1
    rw [clP, cI_t c2] at hO
    rw [xw8_rule_L116]
    unfold xw8_rule_L116_S
    refine ⟨hT.1, fun v120 e120 => ⟨0, 0, by omega, by omega, ?_⟩⟩
    refine x_number (lo := 1) (hi := 63) hT hk hw hA hB (by omega) (by omega) (fun _ v1 v63 v hf2 hk2 => ?_) (fun _ hno => ?_) (fun z => absurd c2 z)
    · rw [cI_t ⟨v1, v63⟩] at hO
      refine ⟨fun c3 => ?_, fun c3 => ?_⟩
      · have c3 : ¬ k = 3 := fun z => c3 (by rw [z]; rfl)
        rw [cI_f c3] at hO
        have hw2 := nxT_w hw
        have hRs := hR.s (v := tkv t) (by omega) v1 v63
        generalize nxT b n t = t2 at hO hk2 hw2
        generalize hh2 : up (up h (12 + 12 * r + 7 + 1 + k) (nI (tkv t))) (12 + 12 * r + 7) (nI (k + 1)) = h2 at hO hRs
        have eL : ∀ j, j < L → hN h2 (12 + 12 * r + 1 + j) = hN h (12 + 12 * r + 1 + j) := fun j hj => by
          have := hR.2.2.2.2.2.1
          rw [← hh2, hN_o (by omega), hN_o (by omega)]
        have e2 : ∀ j, j < 12 + 12 * r → h2 j = h0 j := fun j hj => by rw [← hh2, up_n (by omega), up_n (by omega)]; exact hh j hj
        refine ⟨3, krow, vp_in_nI (by omega) (by omega), fun u156 e156 v157 e157 => ?_⟩
        rw [n_cl (by omega)] at e156
        rw [li_1, nI_add] at e157
        subst e156 e157
        have hX2 : AXt x0 K1 u1 K (xsi v row k (nI (tkv t))) := (hX.fr hf2).at frow (fun c hc j => ⟨by simp [xi, xsi, hc], rfl, rfl⟩)
        have ex : ∀ j, xi (xsi v row k (nI (tkv t))) x0 j = xi v x0 j := fun j => by simp [xi, xsi, hrx.symm]
        have hk3 : TKx x0 (xsi v row k (nI (tkv t))) t2 := ⟨by rw [ex]; exact hk2.1, by rw [ex]; exact hk2.2.1, by rw [ex]; exact hk2.2.2.1, fun z => by rw [ex]; exact hk2.2.2.2 z⟩
        have hL2 : LTx la L r h2 K1 K (xsi v row k (nI (tkv t))) := ⟨kl, fl, fun j hj => by
          rw [eL j hj, ← vl j hj, ← hf2.1 la j (fun z => hlx z.1)]
          simp [xi, xsi, hlr]⟩
        have hrow2 : ∀ j, j < k + 1 → xi (xsi v row k (nI (tkv t))) row j = h2 (12 + 12 * r + 7 + 1 + j) := fun j hj => by
          by_cases z : j = k
          · subst z
            rw [xi_same, ← hh2, up_n (by omega), up_s]
          · rw [xi_ok z, hf2.1 row j (fun y => hrx y.1), hrow j (by omega), ← hh2, up_n (by omega), up_n (by omega)]
        generalize xsi v row k (nI (tkv t)) = u2 at hX2 hk3 hL2 hrow2 ex
        rw [hk3.1]
        refine ⟨fun z => ?_, fun z => ?_⟩
        · have z2 : tkk t2 = 2 := (nI_eq (by have := hw2.2.2.2.1; omega) (by omega)).mp z
          exact ih (k + 1) h2 t2 K u2 c s (by omega) hX2 hk3 hw2 z2 e2 hRs hL2 krow hrow2 hc hs hO
        · have z2 : ¬ tkk t2 = 2 := fun y => z (by rw [y]; rfl)
          rw [clP, cI_f z2] at hO
          rw [n_cl (show k + 1 < 2147483648 by omega), z0_cl]
          refine ⟨by rw [li_0, n_lt_f (by omega) (by omega)]; exact id, by omega, by omega, by omega, fun ca K3 u3 hca e3 e4 => ⟨z0_lt, z0_lt, by rw [li_0, n_lt_f (by omega) (by omega)]; exact id, by omega, by omega, fun u181 e181 => ⟨1, 2, by omega, by omega, ?_⟩⟩⟩
          have hcl : la ≠ ca := fun y => by rw [← y, kl] at hca; cases hca
          have hcr : row ≠ ca := fun y => by rw [← y, krow] at hca; cases hca
          have hcx : x0 ≠ ca := fun y => by rw [← y, hT.1] at hca; cases hca
          have fca : (K1 ca).1 = 0 := hX2.free hca
          have hX3 : AXt x0 K1 u1 K3 u181 := by
            rw [e3, e181, e4]
            exact (hX2.new hca).at fca (fun c hc j => xcp_ne hc j)
          have e5 : ∀ c, c ≠ ca → ∀ j, xi u181 c j = xi u2 c j := fun c hc j => by
            rw [e181, (xcp_ne hc j).1, e4, (xz_ne hc j).1]
          have hk4 : TKx x0 u181 t2 := ⟨by rw [e5 x0 hcx]; exact hk3.1, by rw [e5 x0 hcx]; exact hk3.2.1, by rw [e5 x0 hcx]; exact hk3.2.2.1, fun z => by rw [e5 x0 hcx]; exact hk3.2.2.2 z⟩
          have kca : K3 ca = (2, k + 1) := by rw [e3]; unfold xup; rw [if_pos rfl]
          have kla3 : K3 la = (3, L) := by rw [e3]; unfold xup; rw [if_neg hcl]; exact kl
          have vca : ∀ j, j < k + 1 → xi u181 ca j = h2 (12 + 12 * r + 7 + 1 + j) := fun j hj => by
            rw [e181, xcp_z hj, e4, (xz_ne hcr j).1, hrow2 j hj]
          refine x_cond (hX3.tx hT1) hk4 hw2 (Nat.le_refl _) (Nat.le_refl _) (fun o w ho hfw hkw => ?_)
          have hok : (K3 o).1 = 0 := ho
          have nol : la ≠ o := fun y => by rw [← y, kla3] at hok; cases hok
          have noc : ca ≠ o := fun y => by rw [← y, kca] at hok; cases hok
          have nox : o ≠ x0 := fun y => by rw [y, (hX3.tx hT1).1] at hok; cases hok
          have ncx : ca ≠ x0 := fun y => hcx y.symm
          have fo : (K1 o).1 = 0 := hX3.free hok
          have hX4 : AXt x0 K1 u1 (xup K3 o (1, kc (cdN b t2))) w := ((hX3.new hok).at (v := xsr (xsr (xz u181 o) o 0 (some la)) o 1 (some ca)) fo (fun c hc j => ⟨rfl, rfl, by simp [xr, xsr, hc]⟩)).fr hfw
          have hA4 := hX4.ae hA1 hx0
          have hT4 := hX4.tx hT1
          have e6 : ∀ c, c ≠ o → c ≠ x0 → ∀ j, xi w c j = xi u181 c j := fun c hc hcx2 j => by
            rw [hfw.1 c j (fun z => hcx2 z.1)]
            show xi (xz u181 o) c j = _
            exact (xz_ne hc j).1
          have ka : ∀ c, c ≠ o → xup K3 o (1, kc (cdN b t2)) c = K3 c := fun c hc => by unfold xup; rw [if_neg hc]
          have g5 : ∀ j, ¬ (1 ≤ j ∧ j ≤ 4) → xi w x0 j = xi u1 x0 j := fun j hj => ((hX4 x0 (by rw [hx1]; decide)).2 j).1 (fun z => hj z.2)
          have hTb4 : rTab (xup K3 o (1, kc (cdN b t2))) (owF K0) w tb h2 := ((hTb.ax hX4 hx1)).cg (fun j hj => e2 j (by rw [hr0] at hj; omega)) hW0
          have hwE : TKw b n (cI (cdN b t2 = 0) t2 (nxT b n t2)) := by
            by_cases y : cdN b t2 = 0
            · rw [cI_t y]; exact hw2
            · rw [cI_f y]; exact nxT_w hw2
          refine x_r196 (k := k + 1) (c := cdN b t2) hB hA4 hT4 hkw hwE hx0 (by rw [g5 5 (by omega)]; exact h5) (by rw [g5 6 (by omega)]; exact h6) hTb4 hRs (by omega) cdN_le (by unfold xup; rw [if_pos rfl]) (hA1.free fo) ?_ (by rw [ka la nol]; exact kla3) (hA1.free fl) (fun j hj => ?_) ?_ (by rw [ka ca noc]; exact kca) (hA1.free fca) (fun j hj => ?_) hO
          · rw [hfw.2.2]
            simp [xr, xsr]
          · rw [e6 la nol hlx, e5 la hcl]
            exact hL2.2.2 j hj
          · rw [hfw.2.2]
            simp [xr, xsr]
          · rw [e6 ca noc ncx]
            exact vca j hj
      · have c3 : k = 3 := (nI_eq (by omega) (by omega)).mp c3
        rw [cI_t c3] at hO
        have hA2 := (hX.fr hf2).ae hA1 hx0
        have hT2 := (hX.fr hf2).tx hT1
        obtain ⟨p1, k11⟩ := hB.p hA2
        exact ⟨a 0, hT2.2.2.1, hT2.2.2.2.1, a 11, p1, k11, x_flt hA2 hB rfl (by rw [e120, hk.2.1]) hO⟩
    · rw [cI_f hno] at hO
      exact hO
set_option maxHeartbeats 8000000 in
theorem x_rule {x5 x6 : Int32} {mc ms : Nat} {P : XK → XS → Prop} {PX : Nat → XK → XS → Prop} (hB : BDx a K0 u0) (hp : PRx a b n K0 u0 x0 tb x5 x6 h t K u) (hw : TKw b n t) (hk1 : tkk t = 1) (hTB : TBI h) (hmc : 4 ≤ mc) (hms : 14 ≤ ms)
    (hO : OCx a b n K0 u0 x0 tb x5 x6 P PX (rlX b n h t)) : xw8_rule x0 tb K u mc ms P PX := by
  obtain ⟨hA, hT, hk, hTb, hx0, h5, h6⟩ := hp
  obtain ⟨ra, ktb, otb, pra, kra, ora, f1, _⟩ := id hTb
  have g0 := hTB.1.1.1
  have g0l := hTB.1.1.2
  generalize hr : hN h 0 = r at g0 g0l
  rw [g0] at f1
  have hn : n ≤ 900 := hT.2.2.2.2.2.2.2.1
  unfold rlX at hO
  rw [hr] at hO
  unfold xw8_rule
  rw [f1]
  obtain ⟨p1, k11⟩ := hB.p hA
  by_cases c24 : r = 24
  · rw [cI_t c24] at hO
    exact ⟨ktb, fun z => absurd (by rw [c24]; rfl) z, fun _ => ⟨hT.1, a 0, hT.2.2.1, hT.2.2.2.1, a 11, p1, k11, x_flt hA hB rfl (by rw [hk.2.1]) hO⟩⟩
  rw [cI_f c24] at hO
  refine ⟨ktb, fun _ => ⟨hT.1, x_next hT hw.2.1 hk.2.2.1 (fun v1 hf1 hkt1 => ?_)⟩, fun z => absurd ((nI_eq (by omega) (by omega)).mp (show nI r = nI 24 from z)) c24⟩
  have hw1 := nxT_w hw
  have hkt1 : TKx x0 v1 (nxT b n t) := hkt1
  generalize nxT b n t = t1 at hO hkt1 hw1
  have hX1 : AXt x0 K u K v1 := AXt.refl.fr hf1
  have hT1 := hX1.tx hT
  have hA1 := hX1.ae hA hx0
  have h41 := hw1.2.2.2.1
  have hle := hw1.2.1
  rw [hkt1.1, hkt1.2.2.1, hkt1.2.1, n_sub hw1.1]
  by_cases c1 : tkk t1 = 1
  rotate_left
  · rw [cI_f (fun z => c1 z.1)] at hO
    exact ⟨fun _ => x_wrong hT1 hkt1 hw1 hA1 hB hO, fun z => absurd ((nI_eq (by omega) (by omega)).mp (show nI (tkk t1) = nI 1 from z)) c1⟩
  refine ⟨fun z => absurd (by rw [c1]; rfl) z, fun _ => ?_⟩
  by_cases c6 : tke t1 - tkf t1 ≤ 6
  rotate_left
  · rw [cI_f (fun z => c6 z.2)] at hO
    exact ⟨fun z => absurd z (by rw [li_6, n_le_f (by omega) (by omega)]; exact id), fun _ => x_wrong hT1 hkt1 hw1 hA1 hB hO⟩
  rw [cI_t ⟨c1, c6⟩] at hO
  have hlen := hw1.2.2.1 (by omega)
  refine ⟨fun _ => ?_, fun z => absurd (by rw [li_6, n_le_t c6 (by omega)]; trivial) z⟩
  rw [n_cl (show tke t1 - tkf t1 < 2147483648 by omega)]
  refine ⟨by rw [li_0, n_lt_f (by omega) (by omega)]; exact id, by omega, by omega, by omega, fun la K2 u2 hla e2 e3 => ?_⟩
  have hlx : la ≠ x0 := fun z => by rw [z, hT.1] at hla; cases hla
  have hla1 : la ≠ a 1 := fun z => by rw [z, hT.2.2.2.2.2.1] at hla; cases hla
  have hX2 : AXt x0 K u K2 u2 := by rw [e2, e3]; exact hX1.new hla
  have hT2 := hX2.tx hT
  have q1 : xi u2 x0 1 = nI (tkf t1) := by rw [e3, (xz_ne hlx.symm 1).1]; exact hkt1.2.1
  rw [q1]
  refine ⟨a 0, hT2.2.2.1, hT2.2.2.2.1, a 1, hT2.2.2.2.2.1, 900, hT2.2.2.2.2.2.1, by rw [li_0, n_lt_f (by omega) (by omega)]; exact id, z0_lt, by rw [li_0, n_lt_f (by omega) (by omega)]; exact id, ?_⟩
  rw [n_cl (show tkf t1 < 2147483648 by omega), n_cl (show tke t1 - tkf t1 < 2147483648 by omega), z0_cl]
  refine ⟨by omega, by omega, fun u84 e84 => ?_⟩
  have kla2 : K2 la = (3, tke t1 - tkf t1) := by rw [e2]; unfold xup; rw [if_pos rfl]
  have hX3 : AXt x0 K u K2 u84 := by rw [e84]; exact hX2.at hla (fun c hc j => xcp_ne hc j)
  have hT3 := hX3.tx hT
  have vla : ∀ j, j < tke t1 - tkf t1 → xi u84 la j = b (tkf t1 + j) := fun j hj => by
    rw [e84]
    show (if la = la ∧ 0 ≤ j ∧ j < 0 + (tke t1 - tkf t1) then xi u2 (a 1) (tkf t1 + (j - 0)) else _) = _
    rw [if_pos ⟨rfl, Nat.zero_le _, by omega⟩]
    exact hT2.2.2.2.2.2.2.1 _ (by omega)
  have q2 : xi u84 x0 2 = nI (tke t1) := by rw [e84, (xcp_ne hlx.symm 2).1, e3, (xz_ne hlx.symm 2).1]; exact hkt1.2.2.1
  refine x_next hT3 hle q2 (fun v4 hf4 hkt4 => ?_)
  have hw4 := nxT_w hw1
  have hRL0 := hTB.rl (b := b) (n := n) (t := t1) hr (by omega) hw1 c1 c6
  have hX4 := hX3.fr hf4
  have hT4 := hX4.tx hT
  have hA4 := hX4.ae hA hx0
  have hkt4 : TKx x0 v4 (nxT b n t1) := hkt4
  generalize nxT b n t1 = t2 at hO hkt4 hw4
  refine x_isWord hT4 hkt4 hw4 (by omega) (by omega) ?_
  by_cases cw : wdP b t2 2
  rotate_left
  · rw [cI_f cw] at hO ⊢
    exact ⟨fun z => absurd rfl z, fun _ => x_wrong hT4 hkt4 hw4 hA4 hB hO⟩
  rw [cI_t cw] at hO ⊢
  refine ⟨fun _ => x_next hT4 hw4.2.1 hkt4.2.2.1 (fun v5 hf5 hkt5 => ?_), fun z => absurd z (by decide)⟩
  have hw5 := nxT_w hw4
  have hX5 := hX4.fr hf5
  have hkt5 : TKx x0 v5 (nxT b n t2) := hkt5
  generalize nxT b n t2 = t3 at hO hkt5 hw5
  refine ⟨by omega, by omega, fun row K6 u6 hrow e6 e7 => ?_⟩
  have hX6 : AXt x0 K u K6 u6 := by rw [e6, e7]; exact hX5.new hrow
  have hrx : row ≠ x0 := fun z => by rw [z, (hX5.tx hT).1] at hrow; cases hrow
  have hrl : la ≠ row := fun z => by rw [← z, kla2] at hrow; cases hrow
  have ex : ∀ j, xi u6 x0 j = xi v5 x0 j := fun j => by rw [e7, (xz_ne hrx.symm j).1]
  have hkt6 : TKx x0 u6 t3 := ⟨by rw [ex]; exact hkt5.1, by rw [ex]; exact hkt5.2.1, by rw [ex]; exact hkt5.2.2.1, fun z => by rw [ex]; exact hkt5.2.2.2 z⟩
  have hT6 := hX6.tx hT
  have hA6 := hX6.ae hA hx0
  by_cases c2 : tkk t3 = 2
  · rw [cI_t c2] at hO
    have hLT : LTx la (tke t1 - tkf t1) r (up (rlL h b t1 r) (12 + 12 * r + 7) (nI 0)) K K6 u6 := by
      refine ⟨by rw [e6]; unfold xup; rw [if_neg hrl]; exact kla2, hla, fun j hj => ?_⟩
      have eb : up (rlL h b t1 r) (12 + 12 * r + 7) (nI 0) (12 + 12 * r + 1 + j) = nI ((b (tkf t1 + j)).toNatClampNeg - 96) := by
        rw [up_n (by omega)]
        unfold rlL
        rw [if_neg (by omega), if_pos (by omega), if_pos (by omega), show 12 + 12 * r + 1 + j - (12 + 12 * r + 1) = j by omega]
      have hb := hw1.2.2.2.2.1 c1 (tkf t1 + j) (by omega) (by omega)
      obtain ⟨d1, d2⟩ := c_nI hb
      have hb2 := hb
      rw [d1] at hb2
      obtain ⟨d3, d4⟩ := hb2
      rw [n_toInt (by omega)] at d3 d4
      rw [hN_of eb (by omega), e7, (xz_ne hrl j).1, hf5.1 la j (fun z => hlx z.1), hf4.1 la j (fun z => hlx z.1), vla j hj, show 96 + ((b (tkf t1 + j)).toNatClampNeg - 96) = (b (tkf t1 + j)).toNatClampNeg by omega]
      exact d1
    refine ⟨5, x_r116 (r := r) (L := tke t1 - tkf t1) hB hA hT hx0 h5 h6 h hTb hTB.1 hr (hX5.free hrow) 4 0 _ t3 K6 u6 _ _ (by omega) hX6 hkt6 hw5 c2 (fun j hj => ?_) hRL0 hLT (by rw [e6]; unfold xup; rw [if_pos rfl]) (fun j hj => by omega) (by omega) (by omega) hO⟩
    rw [up_n (by omega)]
    unfold rlL
    rw [if_neg (by omega), if_neg (by omega)]
  · rw [cI_f c2] at hO
    refine ⟨1, ?_⟩
    rw [xw8_rule_L116]
    unfold xw8_rule_L116_S
    exact ⟨hT6.1, fun v120 e120 => ⟨0, 0, by omega, by omega, x_number (lo := 1) (hi := 63) hT6 hkt6 hw5 hA6 hB (by omega) (by omega) (fun z => absurd z c2) (fun z => absurd z c2) (fun _ => hO)⟩⟩
end PRI
