/-! PLAIN LAW: press: the component's table -/
set_option linter.unusedVariables false
section PRL
variable {a : Nat → Nat} {K K0 K1 K2 : XK} {ow : Nat → Nat} {u u0 u1 v : XS} {b h h2 : Nat → Int32} {n x0 tb : Nat} {t : TK} {x5 x6 : Int32}
theorem rlX_0 {t2 : TK} (hB : TBI h) (hw : TKw b n t) (e : rlX b n h t = Sum.inr (h2, t2)) : hN h2 0 = hN h 0 + 1 ∧ hN h 0 < 24 := by
  have g0l := hB.1.1.2
  unfold rlX at e
  by_cases c24 : hN h 0 = 24
  · rw [cI_t c24] at e; cases e
  rw [cI_f c24] at e
  by_cases c1 : tkk (nxT b n t) = 1 ∧ tke (nxT b n t) - tkf (nxT b n t) ≤ 6
  rotate_left
  · rw [cI_f c1] at e; cases e
  rw [cI_t c1] at e
  by_cases cw : wdP b (nxT b n (nxT b n t)) 2
  rotate_left
  · rw [cI_f cw] at e; cases e
  rw [cI_t cw] at e
  by_cases c2 : tkk (nxT b n (nxT b n (nxT b n t))) = 2
  rotate_left
  · rw [cI_f c2] at e; cases e
  rw [cI_t c2] at e
  cases ec : clP b n (hN h 0) 5 (up (rlL h b (nxT b n t) (hN h 0)) (12 + 12 * hN h 0 + 7) (nI 0)) (nxT b n (nxT b n (nxT b n t))) 0 with
  | inl x => rw [ec] at e; cases e
  | inr x =>
    obtain ⟨h3, t3⟩ := x
    rw [ec] at e
    have e : rlE b n (hN h 0) h3 t3 = Sum.inr (h2, t2) := e
    unfold rlE at e
    by_cases cl : tkk (cI (cdN b t3 = 0) t3 (nxT b n t3)) = 3 ∧ ∃ o, o < hN h 0 ∧ lkP (up h3 (12 + 12 * hN h 0 + 11) (nI (cdN b t3))) o (hN h 0)
    · rw [cI_t cl] at e; cases e
    · rw [cI_f cl] at e
      injection e with e
      injection e with e1 e2
      subst e1
      exact ⟨hN_s (by omega), by omega⟩
theorem noI_n {x : Nat} (h1 : 1 ≤ x) (h2 : x < 1000) : noI (nI x) = nI x := by
  unfold noI
  rw [if_neg (fun z => by have := (nI_eq (by omega) (by omega)).mp z; omega)]
theorem PRx.fr {t2 : TK} (hp : PRx a b n K0 u0 x0 tb x5 x6 h t K u) (hf : FRx x0 u v) (hk : TKx x0 v t2) : PRx a b n K0 u0 x0 tb x5 x6 h t2 K v := by
  obtain ⟨hA, hT, _, hTb, hx0, h5, h6⟩ := hp
  have hX : AXt x0 K u K v := AXt.refl.fr hf
  exact ⟨hX.ae hA hx0, hX.tx hT, hk, hTb.ax hX hT.1, hx0, by rw [hf.1 _ _ (by omega)]; exact h5, by rw [hf.1 _ _ (by omega)]; exact h6⟩
theorem PRx.ft (hp : PRx a b n K0 u0 x0 tb x5 x6 h t K u) : K tb = (1, 5) ∧ (K0 tb).1 = 0 ∧ tb ≠ x0 := by
  obtain ⟨hA, hT, _, ⟨ra, ktb, otb, _⟩, _⟩ := hp
  refine ⟨ktb, ?_, fun z => by rw [z, hT.1] at ktb; cases ktb⟩
  by_cases z : (K0 tb).1 = 0
  · exact z
  · unfold owF at otb; rw [if_neg z] at otb; cases otb
theorem PRx.nmr {w x : Nat} (hp : PRx a b n K0 u0 x0 tb x5 x6 h t K u) (hW : WT h) (h1 : 1 ≤ w) (hw5 : w ≤ 5) (hx : 1 ≤ x) (hx2 : x < 1000) : PRx a b n K0 u0 x0 tb x5 x6 (up h w (nI x)) t K (xsi u tb (w + 1) (nI x)) := by
  obtain ⟨ktb, ftb, ntx⟩ := hp.ft
  obtain ⟨hA, hT, hk, hTb, hx0, h5, h6⟩ := hp
  have ei : ∀ c, c ≠ tb → ∀ j, xi (xsi u tb (w + 1) (nI x)) c j = xi u c j := fun c hc j => by simp [xi, xsi, hc]
  have nt : ∀ {c : Nat} {y : Nat × Nat}, K c = y → y ≠ (1, 5) → c ≠ tb := fun e hy z => by rw [z, ktb] at e; exact hy e.symm
  have nx : x0 ≠ tb := ntx.symm
  refine ⟨fun c hc => ?_, ?_, ⟨by rw [ei x0 nx]; exact hk.1, by rw [ei x0 nx]; exact hk.2.1, by rw [ei x0 nx]; exact hk.2.2.1, fun z => by rw [ei x0 nx]; exact hk.2.2.2 z⟩, ?_, hx0, by rw [ei x0 nx]; exact h5, by rw [ei x0 nx]; exact h6⟩
  · have n1 : c ≠ tb := fun z => by rw [z] at hc; exact hc ftb
    exact ⟨(hA c hc).1, fun j => ⟨by rw [ei c n1]; exact ((hA c hc).2 j).1, ((hA c hc).2 j).2⟩⟩
  · obtain ⟨t1, t2, t3, t4, t5, t6, t7, t8, t9⟩ := hT
    exact ⟨t1, by rw [ei x0 nx]; exact t2, t3, t4, t5, t6, fun j hj => by rw [ei _ (nt t6 (by decide))]; exact t7 j hj, t8, t9⟩
  · obtain ⟨ra, k1, o1, p1, k2, o2, f1, f2, f3, f4, f5, f6, hru⟩ := hTb
    have g0l := hW.1.2
    have one : ∀ j, j ≤ 5 → j ≠ w → xi (xsi u tb (w + 1) (nI x)) tb (j + 1) = xi u tb (j + 1) ∧ up h w (nI x) j = h j := fun j hj hne => ⟨xi_ok (by omega), up_n hne⟩
    have eh : ∀ j, 12 ≤ j → hN (up h w (nI x)) j = hN h j := fun j hj => hN_o (by omega)
    refine ⟨ra, k1, o1, p1, k2, o2, ?_, ?_, ?_, ?_, ?_, ?_, fun r hr => ?_⟩
    · rw [(one 0 (by omega) (by omega)).1, (one 0 (by omega) (by omega)).2]; exact f1
    · by_cases z : 1 = w
      · subst z; rw [up_s, noI_n hx hx2]; exact xi_same
      · rw [(one 1 (by omega) z).1, (one 1 (by omega) z).2]; exact f2
    · by_cases z : 2 = w
      · subst z; rw [up_s, noI_n hx hx2]; exact xi_same
      · rw [(one 2 (by omega) z).1, (one 2 (by omega) z).2]; exact f3
    · by_cases z : 3 = w
      · subst z; rw [up_s, noI_n hx hx2]; exact xi_same
      · rw [(one 3 (by omega) z).1, (one 3 (by omega) z).2]; exact f4
    · by_cases z : 4 = w
      · subst z; rw [up_s]; exact xi_same
      · rw [(one 4 (by omega) z).1, (one 4 (by omega) z).2]; exact f5
    · by_cases z : 5 = w
      · subst z; rw [up_s]; exact xi_same
      · rw [(one 5 (by omega) z).1, (one 5 (by omega) z).2]; exact f6
    · rw [hN_o (by omega)] at hr
      obtain ⟨o, po, la, ca, q1, q2, q3, q4, q5, q6, q7, q8, q9, q10⟩ := hru r hr
      exact ⟨o, po, la, ca, by rw [eh _ (by omega)]; exact q1, q2, q3, by rw [eh _ (by omega)]; exact q4, q5, q6, by rw [eh _ (by omega)]; exact q7, q8, fun k hk => by rw [eh _ (by omega)] at hk; rw [ei la (nt q4 (by simp)), eh _ (by omega)]; exact q9 k hk, fun k hk => by rw [eh _ (by omega)] at hk; rw [ei ca (nt q7 (by simp)), up_n (by omega)]; exact q10 k hk⟩
theorem PRx.tld {k : Nat} {y : Int32} (hp : PRx a b n K0 u0 x0 tb x5 x6 h t K u) (hk5 : k = 5 ∨ k = 6) : PRx a b n K0 u0 x0 tb (cI (k = 5) y x5) (cI (k = 6) y x6) h t K (xsi u x0 k y) := by
  obtain ⟨ktb, ftb, ntx⟩ := hp.ft
  obtain ⟨hA, hT, hk, hTb, hx0, h5, h6⟩ := hp
  have ei : ∀ c, c ≠ x0 → ∀ j, xi (xsi u x0 k y) c j = xi u c j := fun c hc j => by simp [xi, xsi, hc]
  have nt : ∀ {c : Nat} {z : Nat × Nat}, K c = z → z ≠ (1, 8) → c ≠ x0 := fun e hy z => by rw [z, hT.1] at e; exact hy e.symm
  have kn : ∀ d, (1, kc d) ≠ ((1, 8) : Nat × Nat) := fun d z => by
    have : kc d = 8 := by injection z
    unfold kc at this
    split at this <;> omega
  refine ⟨fun c hc => ?_, ?_, ⟨by rw [xi_ok (by omega)]; exact hk.1, by rw [xi_ok (by omega)]; exact hk.2.1, by rw [xi_ok (by omega)]; exact hk.2.2.1, fun z => by rw [xi_ok (by omega)]; exact hk.2.2.2 z⟩, ?_, hx0, ?_, ?_⟩
  · have n1 : c ≠ x0 := fun z => by rw [z] at hc; exact hc hx0
    exact ⟨(hA c hc).1, fun j => ⟨by rw [ei c n1]; exact ((hA c hc).2 j).1, ((hA c hc).2 j).2⟩⟩
  · obtain ⟨t1, t2, t3, t4, t5, t6, t7, t8, t9⟩ := hT
    exact ⟨t1, by rw [xi_ok (by omega)]; exact t2, t3, t4, t5, t6, fun j hj => by rw [ei _ t9]; exact t7 j hj, t8, t9⟩
  · obtain ⟨ra, k1, o1, p1, k2, o2, f1, f2, f3, f4, f5, f6, hru⟩ := hTb
    refine ⟨ra, k1, o1, p1, k2, o2, by rw [ei tb ntx]; exact f1, by rw [ei tb ntx]; exact f2, by rw [ei tb ntx]; exact f3, by rw [ei tb ntx]; exact f4, by rw [ei tb ntx]; exact f5, by rw [ei tb ntx]; exact f6, fun r hr => ?_⟩
    obtain ⟨o, po, la, ca, q1, q2, q3, q4, q5, q6, q7, q8, q9, q10⟩ := hru r hr
    exact ⟨o, po, la, ca, q1, q2, q3, q4, q5, q6, q7, q8, fun k hk => by rw [ei la (nt q4 (by simp))]; exact q9 k hk, fun k hk => by rw [ei ca (nt q7 (by simp))]; exact q10 k hk⟩
  · by_cases z : k = 5
    · rw [cI_t z, z]; exact xi_same
    · rw [cI_f z, xi_ok (by omega)]; exact h5
  · by_cases z : k = 6
    · rw [cI_t z, z]; exact xi_same
    · rw [cI_f z, xi_ok (by omega)]; exact h6
theorem x_once {has : Int32} {lo hi mc ms : Nat} {P : Int32 → XK → XS → Prop} {PX : Nat → XK → XS → Prop} (hB : BDx a K0 u0) (hp : PRx a b n K0 u0 x0 tb x5 x6 h t K u) (hw : TKw b n t) (hlo : lo < 1000) (hhi : hi < 1000)
    (h0 : ¬ has = 0 → ∀ K u, FLx a K0 u0 (5, tkf t) K u → PX (a 11) K u)
    (h1 : has = 0 → tkk (nxT b n t) = 2 → lo ≤ tkv (nxT b n t) → tkv (nxT b n t) ≤ hi → ∀ v, PRx a b n K0 u0 x0 tb x5 x6 h (nxT b n (nxT b n t)) K v → P (nI (tkv (nxT b n t))) K v)
    (h4 : has = 0 → tkk (nxT b n t) = 2 → ¬ (lo ≤ tkv (nxT b n t) ∧ tkv (nxT b n t) ≤ hi) → ∀ K u, FLx a K0 u0 (4, tkf (nxT b n t)) K u → PX (a 11) K u)
    (h2 : has = 0 → tkk (nxT b n t) ≠ 2 → ∀ K u, FLx a K0 u0 (flt (nxT b n t) 2) K u → PX (a 11) K u) : xw8_once x0 has (nI lo) (nI hi) K u mc ms P PX := by
  obtain ⟨hA, hT, hk, hTb, hx0, h5, h6⟩ := id hp
  obtain ⟨p1, k11⟩ := hB.p hA
  unfold xw8_once
  refine ⟨fun c => ⟨hT.1, x_next hT hw.2.1 hk.2.2.1 (fun v hf hkv => ?_)⟩, fun c => ⟨hT.1, a 0, hT.2.2.1, hT.2.2.2.1, a 11, p1, k11, x_flt hA hB rfl (by rw [hk.2.1]) (h0 c)⟩⟩
  have hp2 := hp.fr hf hkv
  exact ⟨0, 0, Nat.zero_le _, Nat.zero_le _, x_number hp2.2.1 hkv (nxT_w hw) hp2.1 hB hlo hhi (fun y1 y2 y3 w hfw hkw => h1 c y1 y2 y3 w (hp2.fr hfw hkw)) (h4 c) (h2 c)⟩
theorem x_b168 {G0 : XK → XS → Nat → Nat → Prop} {mc ms c s : Nat} {P : XK → XS → Prop} {PX : Nat → XK → XS → Prop} (hB : BDx a K0 u0) (hp : PRx a b n K0 u0 x0 tb x5 x6 h t K u) (hw : TKw b n t)
    (h3 : tkk t = 3 → ∀ v, PRx a b n K0 u0 x0 tb x5 x6 h (nxT b n t) K v → G0 K v c s) (h2 : tkk t ≠ 3 → ∀ K u, FLx a K0 u0 (flt t 2) K u → PX (a 11) K u) : xw8_table_B168 G0 P PX mc ms x0 tb K u c s := by
  obtain ⟨hA, hT, hk, hTb, hx0, h5, h6⟩ := id hp
  have h4 := hw.2.2.2.1
  unfold xw8_table_B168
  rw [hk.1]
  refine ⟨hT.1, fun c => x_next hT hw.2.1 hk.2.2.1 (fun v hf hkv => h3 ((nI_eq (by omega) (by omega)).mp (show nI (tkk t) = nI 3 from c)) v (hp.fr hf hkv)), fun c => x_wrong hT hk hw hA hB (h2 (fun z => c (by rw [z]; rfl)))⟩
end PRL
