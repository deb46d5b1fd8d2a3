/-! PLAIN LAW: press: a rule, the component, whole -/
set_option linter.unusedVariables false
section PRH
variable {a : Nat → Nat} {K K0 K1 K2 : XK} {u u0 u1 v : XS} {b h h2 : Nat → Int32} {n x0 tb : Nat} {t : TK}
/-- what is new -/
def owF (K0 : XK) : Nat → Nat := fun c => if (K0 c).1 = 0 then 100 else 0
theorem owF_n {c : Nat} (h : (K0 c).1 = 0) : owF K0 c = 100 := if_pos h
/-- the component on its way; told: what stands in the reader -/
def PRx (a : Nat → Nat) (b : Nat → Int32) (n : Nat) (K0 : XK) (u0 : XS) (x0 tb : Nat) (x5 x6 : Int32) (h : Nat → Int32) (t : TK) (K : XK) (u : XS) : Prop :=
  AE K0 u0 K u ∧ TXx a b n x0 K u ∧ TKx x0 u t ∧ rTab K (owF K0) u tb h ∧ (K0 x0).1 = 0 ∧ xi u x0 5 = x5 ∧ xi u x0 6 = x6
/-- the component's outcome of a part -/
def OCx (a : Nat → Nat) (b : Nat → Int32) (n : Nat) (K0 : XK) (u0 : XS) (x0 tb : Nat) (x5 x6 : Int32) (P : XK → XS → Prop) (PX : Nat → XK → XS → Prop) : RO → Prop
  | Sum.inl e => ∀ K u, FLx a K0 u0 e K u → PX (a 11) K u
  | Sum.inr (h, t) => ∀ K u, PRx a b n K0 u0 x0 tb x5 x6 h t K u → P K u
theorem nI_96 {x y : Nat} (hx : x < 1000) (hy : y < 1000) : nI (96 + x) = nI (96 + y) ↔ nI x = nI y := by
  rw [nI_eq (by omega) (by omega), nI_eq (by omega) (by omega)]
  omega
set_option maxHeartbeats 8000000 in
/-- the rule is put behind the others -/
theorem x_r196 {x5 x6 : Int32} {o la ca r L k c cc ss : Nat} {mc ms : Nat} {P : XK → XS → Prop} {PX : Nat → XK → XS → Prop} (hB : BDx a K0 u0) (hA : AE K0 u0 K u) (hT : TXx a b n x0 K u) (hk : TKx x0 u t) (hw : TKw b n t) (hx0 : (K0 x0).1 = 0) (h5 : xi u x0 5 = x5) (h6 : xi u x0 6 = x6)
    (hTb : rTab K (owF K0) u tb h) (hR : RLk h r L k) (hk1 : 1 ≤ k) (hc : c ≤ 4) (ko : K o = (1, kc c)) (fo : (K0 o).1 = 0) (po : xr u o 0 = some la) (kl : K la = (3, L)) (fl : (K0 la).1 = 0) (vl : ∀ j, j < L → xi u la j = nI (96 + hN h (12 + 12 * r + 1 + j)))
    (pc : xr u o 1 = some ca) (kca : K ca = (2, k)) (fc : (K0 ca).1 = 0) (vc : ∀ j, j < k → xi u ca j = h (12 + 12 * r + 7 + 1 + j))
    (hO : OCx a b n K0 u0 x0 tb x5 x6 P PX (cI (tkk t = 3 ∧ ∃ q, q < r ∧ lkP (up h (12 + 12 * r + 11) (nI c)) q r) (Sum.inl (3, tkf t)) (Sum.inr (up (up h (12 + 12 * r + 11) (nI c)) 0 (nI (r + 1)), t)))) : ∃ q, xw8_rule_L196 P PX mc ms x0 tb o q (nI 0) K u cc ss := by
  obtain ⟨⟨⟨wT, b6, b7⟩, r0, r24, rL, L1, L6, rl, rk, k3, rc⟩, fin⟩ := And.intro hR (hR.fin hk1 hc)
  obtain ⟨ra, ktb, otb, pra, kra, ora, f1, f2, f3, f4, f5, f6, hru⟩ := id hTb
  have h0 : h 0 = nI r := by rw [← r0]; exact wT.1.1
  rw [h0] at f1
  have xo := xRule_of ko hc
  have hlk : ∀ q, q < r → ∀ oq laq, K oq = (1, kc (hN h (12 + 12 * q + 11))) → xr u oq 0 = some laq → K laq = (3, hN h (12 + 12 * q)) → (∀ j, j < hN h (12 + 12 * q) → xi u laq j = nI (96 + hN h (12 + 12 * q + 1 + j))) →
      (lkP (up h (12 + 12 * r + 11) (nI c)) q r ↔ (hN h (12 + 12 * q + 11) = c ∧ hN h (12 + 12 * q) = L ∧ ∀ j, j < hN h (12 + 12 * q) → nI (96 + hN h (12 + 12 * q + 1 + j)) = nI (96 + hN h (12 + 12 * r + 1 + j)))) := by
    intro q hq oq laq _ _ _ _
    obtain ⟨⟨e1, l1, l6⟩, el, _, _, ⟨e11, d4⟩⟩ := wT.2.2.2.2.2.2 q (by omega)
    unfold lkP
    rw [up_n (by omega), up_n (by omega), up_n (by omega), up_s, hN_o (by omega), e1, e11, rL, nI_eq (by omega) (by omega), nI_eq (by omega) (by omega)]
    generalize hlq : hN h (12 + 12 * q) = lq at l1 l6 el
    have hv : ∀ j, j < lq → lq = L → (up h (12 + 12 * r + 11) (nI c) (12 + 12 * q + 1 + j) = up h (12 + 12 * r + 11) (nI c) (12 + 12 * r + 1 + j) ↔ nI (96 + hN h (12 + 12 * q + 1 + j)) = nI (96 + hN h (12 + 12 * r + 1 + j))) := fun j hj hL => by
      rw [up_n (by omega), up_n (by omega)]
      obtain ⟨y1, y2, y3⟩ := el j hj
      obtain ⟨y4, y5, y6⟩ := rl j (by omega)
      rw [nI_96 (by omega) (by omega), ← y1, ← y4]
    constructor
    · rintro ⟨z1, z2, z3⟩
      exact ⟨z2, z1, fun j hj => (hv j hj z1).mp (z3 j hj)⟩
    · rintro ⟨z1, z2, z3⟩
      exact ⟨z2, z1, fun j hj => (hv j hj z2).mpr (z3 j hj)⟩
  have key : ∀ d q, q + d = r → (tkk t = 3 → ∀ q2, q2 < q → ¬ lkP (up h (12 + 12 * r + 11) (nI c)) q2 r) → xw8_rule_L196 P PX mc ms x0 tb o (d + 1) (nI q) K u cc ss := by
    intro d
    induction d with
    | zero =>
      intro q hq hno
      have eq : q = r := by omega
      rw [cI_f (fun z => by obtain ⟨z0, q2, z1, z2⟩ := z; exact hno z0 q2 (by omega) z2)] at hO
      unfold xw8_rule_L196 xw8_rule_L196_S
      rw [f1]
      refine ⟨ktb, fun _ => ⟨ra, pra, 24, kra, vp_in_nI (by omega) (by omega), xo, fun u260 e1 u268 e2 => ?_⟩, fun z => absurd (by rw [eq]; exact Int32.le_refl _) z⟩
      rw [n_cl (by omega)] at e1
      subst e1
      have e2 : u268 = xsi (xsr u ra r (some o)) tb 1 (nI (r + 1)) := by
        rw [e2]
        show xsi _ tb 1 (xi u tb 1 + 1) = _
        rw [f1, li_1, nI_add]
      subst e2
      have ft : (K0 tb).1 = 0 := by
        by_cases z : (K0 tb).1 = 0
        · exact z
        · unfold owF at otb; rw [if_neg z] at otb; cases otb
      have fr : (K0 ra).1 = 0 := by
        by_cases z : (K0 ra).1 = 0
        · exact z
        · unfold owF at ora; rw [if_neg z] at ora; cases ora
      have nt : ∀ {c : Nat} {y : Nat × Nat}, K c = y → y ≠ (1, 5) → c ≠ tb := fun e hy z => by rw [z, ktb] at e; exact hy e.symm
      have nr : ∀ {c : Nat} {y : Nat × Nat}, K c = y → y ≠ (7, 24) → c ≠ ra := fun e hy z => by rw [z, kra] at e; exact hy e.symm
      have kn : ∀ d, (1, kc d) ≠ ((1, 5) : Nat × Nat) ∧ (1, kc d) ≠ ((7, 24) : Nat × Nat) := fun d => ⟨fun z => by
        have : kc d = 5 := by injection z
        unfold kc at this
        split at this <;> omega, fun z => by injection z; omega⟩
      have ei : ∀ c, c ≠ tb → ∀ j, xi (xsi (xsr u ra r (some o)) tb 1 (nI (r + 1))) c j = xi u c j := fun c hc j => by
        simp [xi, xsi, xsr, hc]
      have ei2 : ∀ j, j ≠ 1 → xi (xsi (xsr u ra r (some o)) tb 1 (nI (r + 1))) tb j = xi u tb j := fun j hj => by
        simp [xi, xsi, xsr, hj]
      have er : ∀ c, c ≠ ra → ∀ j, xr (xsi (xsr u ra r (some o)) tb 1 (nI (r + 1))) c j = xr u c j := fun c hc j => by
        simp [xr, xsi, xsr, hc]
      have er2 : ∀ j, j ≠ r → xr (xsi (xsr u ra r (some o)) tb 1 (nI (r + 1))) ra j = xr u ra j := fun j hj => by
        simp [xr, xsi, xsr, hj]
      have er3 : xr (xsi (xsr u ra r (some o)) tb 1 (nI (r + 1))) ra r = some o := by simp [xr, xsi, xsr]
      have g0 := hN_s (w := up h (12 + 12 * r + 11) (nI c)) (k := 0) (c := r + 1) (by omega)
      have nx : x0 ≠ tb := nt hT.1 (by decide)
      have nxr : x0 ≠ ra := nr hT.1 (by decide)
      have e0 : ∀ j, j ≠ 0 → j < 12 + 12 * r + 11 → up (up h (12 + 12 * r + 11) (nI c)) 0 (nI (r + 1)) j = h j := fun j h0 hj => by rw [up_n h0, up_n (by omega)]
      have eh : ∀ j, j ≠ 0 → j < 12 + 12 * r + 11 → hN (up (up h (12 + 12 * r + 11) (nI c)) 0 (nI (r + 1))) j = hN h j := fun j h0 hj => congrArg Int32.toNatClampNeg (e0 j h0 hj)
      refine hO K _ ⟨fun c hc => ?_, ?_, ⟨by rw [ei x0 nx]; exact hk.1, by rw [ei x0 nx]; exact hk.2.1, by rw [ei x0 nx]; exact hk.2.2.1, fun z => by rw [ei x0 nx]; exact hk.2.2.2 z⟩, ?_, hx0, by rw [ei x0 nx]; exact h5, by rw [ei x0 nx]; exact h6⟩
      · have n1 : c ≠ tb := fun z => by rw [z] at hc; exact hc ft
        have n2 : c ≠ ra := fun z => by rw [z] at hc; exact hc fr
        exact ⟨(hA c hc).1, fun j => ⟨by rw [ei c n1]; exact ((hA c hc).2 j).1, ((hA c hc).2 j).2.1, by rw [er c n2]; exact ((hA c hc).2 j).2.2⟩⟩
      · obtain ⟨t1, t2, t3, t4, t5, t6, t7, t8, t9⟩ := hT
        exact ⟨t1, by rw [ei x0 nx]; exact t2, by rw [er x0 nxr]; exact t3, t4, by rw [er _ (nr t4 (by decide))]; exact t5, t6, fun j hj => by rw [ei _ (nt t6 (by decide))]; exact t7 j hj, t8, t9⟩
      · refine ⟨ra, ktb, otb, by rw [er tb (nr ktb (by decide))]; exact pra, kra, ora, xi_same.trans up_s.symm, by rw [ei2 2 (by omega), e0 1 (by omega) (by omega)]; exact f2, by rw [ei2 3 (by omega), e0 2 (by omega) (by omega)]; exact f3, by rw [ei2 4 (by omega), e0 3 (by omega) (by omega)]; exact f4, by rw [ei2 5 (by omega), e0 4 (by omega) (by omega)]; exact f5, by rw [ei2 6 (by omega), e0 5 (by omega) (by omega)]; exact f6, fun q2 hq2 => ?_⟩
        rw [g0] at hq2
        by_cases z : q2 = r
        · subst z
          have ec : hN (up (up h (12 + 12 * q2 + 11) (nI c)) 0 (nI (q2 + 1))) (12 + 12 * q2 + 11) = c := by rw [hN_o (by omega), hN_s (by omega)]
          refine ⟨o, er3, la, ca, by rw [ec]; exact ko, owF_n fo, by rw [er o (nr ko (kn c).2)]; exact po, by rw [eh _ (by omega) (by omega), hN_of rL (by omega)]; exact kl, owF_n fl, by rw [er o (nr ko (kn c).2)]; exact pc, by rw [eh _ (by omega) (by omega), hN_of rk (by omega)]; exact kca, owF_n fc, fun j hj => ?_, fun j hj => ?_⟩
          · rw [eh _ (by omega) (by omega), hN_of rL (by omega)] at hj
            rw [ei la (nt kl (by simp)), eh _ (by omega) (by omega)]
            exact vl j hj
          · rw [eh _ (by omega) (by omega), hN_of rk (by omega)] at hj
            rw [ei ca (nt kca (by simp)), e0 _ (by omega) (by omega)]
            exact vc j hj
        · obtain ⟨oq, poq, laq, caq, y1, y2, y3, y4, y5, y6, y7, y8, y9, y10⟩ := hru q2 (by omega)
          obtain ⟨⟨_, _, l6⟩, _, ⟨_, _, c3⟩, _, _⟩ := wT.2.2.2.2.2.2 q2 (by omega)
          refine ⟨oq, by rw [er2 q2 z]; exact poq, laq, caq, by rw [eh _ (by omega) (by omega)]; exact y1, y2, by rw [er oq (nr y1 (kn _).2)]; exact y3, by rw [eh _ (by omega) (by omega)]; exact y4, y5, by rw [er oq (nr y1 (kn _).2)]; exact y6, by rw [eh _ (by omega) (by omega)]; exact y7, y8, fun j hj => ?_, fun j hj => ?_⟩
          · rw [eh _ (by omega) (by omega)] at hj
            rw [ei laq (nt y4 (by simp)), eh _ (by omega) (by omega)]
            exact y9 j hj
          · rw [eh _ (by omega) (by omega)] at hj
            rw [ei caq (nt y7 (by simp)), e0 _ (by omega) (by omega)]
            exact y10 j hj
    | succ d ih =>
      intro q hq hno
      obtain ⟨oq, poq, laq, caq, y1, y2, y3, y4, y5, y6, y7, y8, y9, y10⟩ := hru q (by omega)
      obtain ⟨⟨e1, l1, l6⟩, _, _, _, ⟨e11, d4⟩⟩ := wT.2.2.2.2.2.2 q (by omega)
      have hiff := hlk q (by omega) oq laq y1 y3 y4 y9
      have k3 := hk.1
      unfold xw8_rule_L196 xw8_rule_L196_S
      rw [f1]
      refine ⟨ktb, fun z => absurd z (by rw [n_le_f (by omega) (by omega)]; exact id), fun _ => ⟨ra, pra, 24, kra, vp_in_nI (by omega) (by omega), oq, by rw [n_cl (by omega)]; exact poq, xRule_of y1 d4, ?_⟩⟩
      refine x_isLike y1 d4 y3 y4 y9 (by omega) ko hc po kl vl (by omega) ?_
      have nxt : (tkk t = 3 → ¬ lkP (up h (12 + 12 * r + 11) (nI c)) q r) → xw8_rule_L196 P PX mc ms x0 tb o (d + 1) (nI (q + 1)) K u cc ss := fun hn => ih (q + 1) (by omega) (fun h3 q2 hq2 => by
        by_cases z : q2 = q
        · subst z; exact hn h3
        · exact hno h3 q2 (by omega))
      by_cases cl : lkP (up h (12 + 12 * r + 11) (nI c)) q r
      · rw [cI_t (hiff.mp cl)]
        refine ⟨fun z => absurd z (by decide), fun _ => ⟨hT.1, fun c3 v e => ?_, fun c3 => ?_⟩⟩
        · rw [li_1, nI_add] at e
          subst e
          exact nxt (fun z => absurd (by rw [k3, z]; rfl) c3)
        · rw [k3] at c3
          have z3 : tkk t = 3 := (nI_eq (by have := hw.2.2.2.1; omega) (by omega)).mp c3
          rw [cI_t ⟨z3, q, by omega, cl⟩] at hO
          obtain ⟨p1, k11⟩ := hB.p hA
          exact ⟨a 0, hT.2.2.1, hT.2.2.2.1, a 11, p1, k11, x_flt hA hB rfl (by rw [hk.2.1]) hO⟩
      · rw [cI_f (fun z => cl (hiff.mpr z))]
        refine ⟨fun _ v e => ?_, fun z => absurd rfl z⟩
        rw [li_1, nI_add] at e
        subst e
        exact nxt (fun _ => cl)
  exact ⟨_, key r 0 (by omega) (fun _ q2 h2 => by omega)⟩
end PRH
