/-! PLAIN LAW: press: a rule, the component: its pieces -/
set_option linter.unusedVariables false
section PRG
variable {a : Nat → Nat} {K K0 K1 K2 : XK} {ow : Nat → Nat} {u u0 u1 v : XS} {b h h2 : Nat → Int32} {n x0 tb : Nat} {t : TK}
/-- what was there stays, but the reader's token -/
def AXt (x0 : Nat) (K1 : XK) (u1 : XS) (K : XK) (u : XS) : Prop := ∀ c, (K1 c).1 ≠ 0 → K c = K1 c ∧ ∀ k, (¬ (c = x0 ∧ 1 ≤ k ∧ k ≤ 4) → xi u c k = xi u1 c k) ∧ xl u c k = xl u1 c k ∧ xr u c k = xr u1 c k
theorem AXt.refl : AXt x0 K u K u := fun c hc => ⟨rfl, fun k => ⟨fun _ => rfl, rfl, rfl⟩⟩
theorem AXt.fr (h : AXt x0 K1 u1 K u) (hf : FRx x0 u v) : AXt x0 K1 u1 K v := fun c hc => ⟨(h c hc).1, fun k => ⟨fun q => (hf.1 c k q).trans (((h c hc).2 k).1 q), (hf.2.1 c k).trans ((h c hc).2 k).2.1, (hf.2.2 c k).trans ((h c hc).2 k).2.2⟩⟩
theorem AXt.free {q : Nat} (h : AXt x0 K1 u1 K u) (hq : (K q).1 = 0) : (K1 q).1 = 0 := by
  by_cases c : (K1 q).1 = 0
  · exact c
  · rw [(h q c).1] at hq; exact absurd hq c
theorem AXt.new {q : Nat} {y : Nat × Nat} (h : AXt x0 K1 u1 K u) (hq : (K q).1 = 0) : AXt x0 K1 u1 (xup K q y) (xz u q) := fun c hc => by
  have hn : c ≠ q := fun e => by rw [← e] at hq; exact hc (h.free hq)
  obtain ⟨e, f⟩ := h c hc
  exact ⟨by rw [← e]; unfold xup; rw [if_neg hn], fun k => by rw [(xz_ne (v := u) hn k).1, (xz_ne (v := u) hn k).2.1, (xz_ne (v := u) hn k).2.2]; exact f k⟩
theorem AXt.at {q : Nat} (h : AXt x0 K1 u1 K u) (hq : (K1 q).1 = 0) (hs : ∀ c, c ≠ q → ∀ k, xi v c k = xi u c k ∧ xl v c k = xl u c k ∧ xr v c k = xr u c k) : AXt x0 K1 u1 K v := fun c hc => by
  have hn : c ≠ q := fun e => by rw [← e] at hq; exact hc hq
  obtain ⟨e, f⟩ := h c hc
  exact ⟨e, fun k => by rw [(hs c hn k).1, (hs c hn k).2.1, (hs c hn k).2.2]; exact f k⟩
theorem AXt.tx (h : AXt x0 K1 u1 K u) (hT : TXx a b n x0 K1 u1) : TXx a b n x0 K u := by
  obtain ⟨h1, h2, h3, h4, h5, h6, h7, h8, h9⟩ := hT
  have e0 := h x0 (by rw [h1]; decide)
  have ea := h (a 0) (by rw [h4]; decide)
  have eb := h (a 1) (by rw [h6]; decide)
  exact ⟨by rw [e0.1, h1], by rw [(e0.2 0).1 (by omega), h2], by rw [(e0.2 7).2.2, h3], by rw [ea.1, h4], by rw [(ea.2 2).2.2, h5], by rw [eb.1, h6], fun k hk => by rw [(eb.2 k).1 (fun z => h9 z.1), h7 k hk], h8, h9⟩
theorem AXt.ae (h : AXt x0 K1 u1 K u) (h0 : AE K0 u0 K1 u1) (hx : (K0 x0).1 = 0) : AE K0 u0 K u := fun c hc => by
  obtain ⟨e, f⟩ := h0 c hc
  have hn : c ≠ x0 := fun z => by rw [z] at hc; exact hc hx
  obtain ⟨e2, f2⟩ := h c (by rw [e]; exact hc)
  exact ⟨e2.trans e, fun k => ⟨((f2 k).1 (fun z => hn z.1)).trans (f k).1, (f2 k).2.1.trans (f k).2.1, (f2 k).2.2.trans (f k).2.2⟩⟩
theorem AXt.of (h0 : AE K u K2 v) : AXt x0 K u K2 v := fun c hc => ⟨(h0 c hc).1, fun k => ⟨fun _ => ((h0 c hc).2 k).1, ((h0 c hc).2 k).2⟩⟩
theorem rTab.ax (hA : AXt x0 K1 u1 K u) (hx : K1 x0 = (1, 8)) (hT : rTab K1 ow u1 tb h) : rTab K ow u tb h := by
  obtain ⟨ra, h1, h2, h3, h4, h5, h6, h7, h8, h9, h10, h11, h12⟩ := hT
  have nx : ∀ {c : Nat} {y : Nat × Nat}, K1 c = y → y ≠ (1, 8) → c ≠ x0 := fun e hy z => by rw [z, hx] at e; exact hy e.symm
  have kk : ∀ {c : Nat} {y : Nat × Nat}, K1 c = y → y.1 ≠ 0 → K c = y := fun e hy => by rw [(hA _ (by rw [e]; exact hy)).1, e]
  have ii : ∀ {c : Nat} {y : Nat × Nat}, K1 c = y → y.1 ≠ 0 → y ≠ (1, 8) → ∀ k, xi u c k = xi u1 c k := fun e hy hn k => ((hA _ (by rw [e]; exact hy)).2 k).1 (fun z => nx e hn z.1)
  have rr : ∀ {c : Nat} {y : Nat × Nat}, K1 c = y → y.1 ≠ 0 → ∀ k, xr u c k = xr u1 c k := fun e hy k => ((hA _ (by rw [e]; exact hy)).2 k).2.2
  have kn : ∀ d, (1, kc d) ≠ ((1, 8) : Nat × Nat) := fun d z => by
    have : kc d = 8 := by injection z
    unfold kc at this
    split at this <;> omega
  refine ⟨ra, kk h1 (by decide), h2, by rw [rr h1 (by decide)]; exact h3, kk h4 (by decide), h5, by rw [ii h1 (by decide) (by decide)]; exact h6, by rw [ii h1 (by decide) (by decide)]; exact h7, by rw [ii h1 (by decide) (by decide)]; exact h8, by rw [ii h1 (by decide) (by decide)]; exact h9, by rw [ii h1 (by decide) (by decide)]; exact h10, by rw [ii h1 (by decide) (by decide)]; exact h11, fun r hr => ?_⟩
  obtain ⟨o, po, la, ca, q1, q2, q3, q4, q5, q6, q7, q8, q9, q10⟩ := h12 r hr
  exact ⟨o, by rw [rr h4 (by decide)]; exact po, la, ca, kk q1 (by simp), q2, by rw [rr q1 (by simp)]; exact q3, kk q4 (by simp), q5, by rw [rr q1 (by simp)]; exact q6, kk q7 (by simp), q8, fun k hk => by rw [ii q4 (by simp) (by simp)]; exact q9 k hk, fun k hk => by rw [ii q7 (by simp) (by simp)]; exact q10 k hk⟩
theorem rTab.cg (he : ∀ k, k < 6 ∨ (12 ≤ k ∧ k < 12 + 12 * hN h 0) → h2 k = h k) (hT : WT h) (hb : rTab K ow u tb h) : rTab K ow u tb h2 := by
  have hh : ∀ k, k < 6 ∨ (12 ≤ k ∧ k < 12 + 12 * hN h 0) → hN h2 k = hN h k := fun k hk => congrArg Int32.toNatClampNeg (he k hk)
  obtain ⟨ra, h1, h2', h3, h4, h5, h6, h7, h8, h9, h10, h11, h12⟩ := hb
  have g0l := hT.1.2
  refine ⟨ra, h1, h2', h3, h4, h5, by rw [h6, he 0 (by omega)], by rw [h7, he 1 (by omega)], by rw [h8, he 2 (by omega)], by rw [h9, he 3 (by omega)], by rw [h10, he 4 (by omega)], by rw [h11, he 5 (by omega)], fun r hr => ?_⟩
  rw [hh 0 (by omega)] at hr
  obtain ⟨o, ho, la, ca, q1, q2, q3, q4, q5, q6, q7, q8, q9, q10⟩ := h12 r hr
  obtain ⟨⟨e1, l1, l6⟩, el, ⟨e7, c1, c3⟩, ec, ⟨e11, d4⟩⟩ := hT.2.2.2.2.2.2 r hr
  exact ⟨o, ho, la, ca, by rw [hh _ (by omega)]; exact q1, q2, q3, by rw [hh _ (by omega)]; exact q4, q5, q6, by rw [hh _ (by omega)]; exact q7, q8, fun k hk => by rw [hh _ (by omega)] at hk ⊢; exact q9 k hk, fun k hk => by rw [hh _ (by omega)] at hk; rw [he _ (by omega)]; exact q10 k hk⟩
/-- the component, when something is wrong -/
def FLx (a : Nat → Nat) (K0 : XK) (u0 : XS) (e : Nat × Nat) (K : XK) (u : XS) : Prop :=
  (∀ c, (K0 c).1 ≠ 0 → K c = K0 c ∧ ∀ k, (c ≠ a 11 → xi u c k = xi u0 c k) ∧ xl u c k = xl u0 c k ∧ xr u c k = xr u0 c k) ∧ xi u (a 11) 6 = nI e.1 ∧ xi u (a 11) 7 = nI e.2
/-- where what is wrong is put -/
def BDx (a : Nat → Nat) (K0 : XK) (u0 : XS) : Prop := K0 (a 0) = (1, 0) ∧ xr u0 (a 0) 1 = some (a 11) ∧ K0 (a 11) = (1, 2)
theorem BDx.p (hB : BDx a K0 u0) (hA : AE K0 u0 K u) : xr u (a 0) 1 = some (a 11) ∧ K (a 11) = (1, 2) :=
  ⟨by rw [((hA (a 0) (by rw [hB.1]; decide)).2 1).2.2]; exact hB.2.1, by rw [(hA (a 11) (by rw [hB.2.2]; decide)).1]; exact hB.2.2⟩
theorem x_flt {e : Nat × Nat} {PX : Nat → XK → XS → Prop} {x y : Int32} (hA : AE K0 u0 K u) (hB : BDx a K0 u0) (ex : x = nI e.1) (ey : y = nI e.2) (hP : ∀ K u, FLx a K0 u0 e K u → PX (a 11) K u) : xw2_at (a 11) x y K u (fun r w => K r = (1, 2) ∧ PX r K w) := by
  have k11 := (hB.p hA).2
  unfold xw2_at
  refine ⟨k11, fun u2 e2 u7 e7 => ⟨k11, ?_⟩⟩
  subst e2 e7 ex ey
  refine hP _ _ ⟨fun c hc => ⟨(hA c hc).1, fun k => ⟨fun hn => ?_, ((hA c hc).2 k).2.1, ((hA c hc).2 k).2.2⟩⟩, by rw [xi_ok (by omega), xi_same], xi_same⟩
  rw [← ((hA c hc).2 k).1]
  simp [xi, xsi, hn]
theorem x_wrong {PX : Nat → XK → XS → Prop} (hT : TXx a b n x0 K u) (hk : TKx x0 u t) (hw : TKw b n t) (hA : AE K0 u0 K u) (hB : BDx a K0 u0) (hP : ∀ K u, FLx a K0 u0 (flt t 2) K u → PX (a 11) K u) : xw8_wrong x0 K u (fun r w => K r = (1, 2) ∧ PX r K w) := by
  obtain ⟨p1, k11⟩ := hB.p hA
  obtain ⟨t1, t2, t3, t4, _⟩ := hT
  obtain ⟨k3, k1, _⟩ := hk
  have h4 := hw.2.2.2.1
  unfold xw8_wrong
  rw [k3, k1]
  refine ⟨t1, a 0, t3, t4, fun c => ⟨a 11, p1, k11, x_flt hA hB ?_ rfl hP⟩, fun c => ⟨a 11, p1, k11, x_flt hA hB ?_ rfl hP⟩⟩
  · show (2 : Int32) = nI (if tkk t = 4 then 1 else 2)
    rw [if_neg (fun z => c (by rw [z]; rfl))]
    rfl
  · show (1 : Int32) = nI (if tkk t = 4 then 1 else 2)
    rw [if_pos ((nI_eq (by omega) (by omega)).mp (show nI (tkk t) = nI 4 from c))]
    rfl
theorem x_number {lo hi mc ms : Nat} {P : Int32 → XK → XS → Prop} {PX : Nat → XK → XS → Prop} (hT : TXx a b n x0 K u) (hk : TKx x0 u t) (hw : TKw b n t) (hA : AE K0 u0 K u) (hB : BDx a K0 u0) (hlo : lo < 1000) (hhi : hi < 1000)
    (h1 : tkk t = 2 → lo ≤ tkv t → tkv t ≤ hi → ∀ v, FRx x0 u v → TKx x0 v (nxT b n t) → P (nI (tkv t)) K v)
    (h4 : tkk t = 2 → ¬ (lo ≤ tkv t ∧ tkv t ≤ hi) → ∀ K u, FLx a K0 u0 (4, tkf t) K u → PX (a 11) K u)
    (h2 : tkk t ≠ 2 → ∀ K u, FLx a K0 u0 (flt t 2) K u → PX (a 11) K u) : xw8_number x0 (nI lo) (nI hi) K u mc ms P PX := by
  obtain ⟨p1, k11⟩ := hB.p hA
  obtain ⟨t1, t2, t3, t4, _⟩ := id hT
  obtain ⟨k3, k1, k2, k4⟩ := id hk
  have h5 := hw.2.2.2.1
  unfold xw8_number
  rw [k3]
  refine ⟨t1, fun c => ?_, fun c => x_wrong hT hk hw hA hB (h2 (fun z => c (by rw [z]; rfl)))⟩
  have c2 : tkk t = 2 := (nI_eq (by omega) (by omega)).mp c
  have hv := hw.2.2.2.2.2.1 c2
  rw [k4 c2]
  by_cases clo : tkv t < lo
  · exact ⟨fun _ => ⟨a 0, t3, t4, a 11, p1, k11, x_flt hA hB rfl (by rw [k1]) (h4 c2 (by omega))⟩, fun z => absurd (by rw [n_lt_t clo (by omega)]; trivial) z⟩
  · refine ⟨fun z => absurd z (by rw [n_lt_f (by omega) (by omega)]; exact id), fun _ => ?_⟩
    by_cases chi : tkv t ≤ hi
    · refine ⟨fun _ v49 e => ?_, fun z => absurd (by rw [n_le_t chi (by omega)]; trivial) z⟩
      subst e
      exact x_next hT hw.2.1 k2 (fun v hf hk2 => h1 c2 (by omega) chi v hf hk2)
    · exact ⟨fun z => absurd z (by rw [n_le_f (by omega) (by omega)]; exact id), fun _ => ⟨a 0, t3, t4, a 11, p1, k11, x_flt hA hB rfl (by rw [k1]) (h4 c2 (by omega))⟩⟩
theorem x_isLike {o1 o2 d1 d2 l1 l2 n1 n2 : Nat} {f1 f2 : Nat → Int32} {P : Int32 → XS → Prop} (k1 : K o1 = (1, kc d1)) (hd1 : d1 ≤ 4) (p1 : xr u o1 0 = some l1) (q1 : K l1 = (3, n1)) (v1 : ∀ k, k < n1 → xi u l1 k = f1 k) (hn1 : n1 < 1000)
    (k2 : K o2 = (1, kc d2)) (hd2 : d2 ≤ 4) (p2 : xr u o2 0 = some l2) (q2 : K l2 = (3, n2)) (v2 : ∀ k, k < n2 → xi u l2 k = f2 k) (hn2 : n2 < 1000)
    (hP : P (cI (d1 = d2 ∧ n1 = n2 ∧ ∀ k, k < n1 → f1 k = f2 k) (nI 1) (nI 0)) u) : xw9_isLike o1 o2 K u P := by
  have x1 := xRule_of k1 hd1
  have x2 := xRule_of k2 hd2
  unfold xw9_isLike
  refine ⟨x1, x_told k1 hd1 ⟨x2, x_told k2 hd2 ⟨fun c => ?_, fun c => ?_⟩⟩⟩
  · rw [cI_f (fun z => c (by rw [z.1]))] at hP
    exact hP
  · have ed : d1 = d2 := (nI_eq (by omega) (by omega)).mp c
    refine ⟨l1, p1, n1, q1, l2, p2, n2, q2, fun c2 => ?_, fun c2 => ?_⟩
    · have en : n1 = n2 := (nI_eq (by omega) (by omega)).mp c2
      have key : ∀ g k, k + g = n1 → (∀ j, j < k → f1 j = f2 j) → xw9_isLike_L28 P K o1 o2 (g + 1) (nI k) u := by
        intro g
        induction g with
        | zero =>
          intro k hk hj
          have ek : k = n1 := by omega
          rw [cI_t ⟨ed, en, by rw [← ek]; exact hj⟩] at hP
          unfold xw9_isLike_L28 xw9_isLike_L28_S
          exact ⟨x1, l1, p1, n1, q1, fun _ => hP, fun z => absurd (by rw [ek]; exact Int32.le_refl _) z⟩
        | succ g ih =>
          intro k hk hj
          unfold xw9_isLike_L28 xw9_isLike_L28_S
          refine ⟨x1, l1, p1, n1, q1, fun z => absurd z (by rw [n_le_f (by omega) (by omega)]; exact id), fun _ => ⟨l1, p1, n1, q1, vp_in_nI (by omega) (by omega), x2, l2, p2, n2, q2, vp_in_nI (by omega) (by omega), ?_⟩⟩
          rw [n_cl (by omega), v1 k (by omega), v2 k (by omega)]
          refine ⟨fun c v e => ?_, fun c => ?_⟩
          · rw [li_1, nI_add] at e
            subst e
            exact ih (k + 1) (by omega) (fun j hj2 => by
              by_cases z : j = k
              · subst z; exact c
              · exact hj j (by omega))
          · rw [cI_f (fun z => c (z.2.2 k (by omega)))] at hP
            exact hP
      exact ⟨_, key n1 0 (by omega) (fun j hj => by omega)⟩
    · rw [cI_f (fun z => c2 (by rw [z.2.1]))] at hP
      exact hP
theorem x_cond {la ca mc ms : Nat} {P : Nat → XK → XS → Prop} (hT : TXx a b n x0 K u) (hk : TKx x0 u t) (hw : TKw b n t) (hmc : 1 ≤ mc) (hms : 2 ≤ ms)
    (hP : ∀ o v, (K o).1 = 0 → FRx x0 (xsr (xsr (xz u o) o 0 (some la)) o 1 (some ca)) v → TKx x0 v (cI (cdN b t = 0) t (nxT b n t)) → P o (xup K o (1, kc (cdN b t))) v) : xw8_cond x0 la ca K u mc ms P := by
  have t1 := hT.1
  have fin : ∀ d o K9 u9, cdN b t = d → d ≤ 4 → (K o).1 = 0 → K9 = xup K o (1, kc d) → u9 = xz u o → xw9_init o la ca K9 u9 (fun u15 => xw8_cond_B93 P mc ms x0 o K9 u15 1 2) := by
    intro d o K9 u9 hd hd4 ho e1 e2
    have ko : K9 o = (1, kc d) := by rw [e1]; unfold xup; rw [if_pos rfl]
    have nx : x0 ≠ o := fun z => by rw [← z, t1] at ho; cases ho
    have xo := xRule_of ko hd4
    have hX : AXt x0 K u K9 (xsr (xsr u9 o 0 (some la)) o 1 (some ca)) := by
      rw [e1, e2]
      exact (AXt.refl.new ho).at ho (fun c hc k => ⟨rfl, rfl, by simp [xr, xsr, hc]⟩)
    have hT2 := hX.tx hT
    have e0 : ∀ k, xi (xsr (xsr u9 o 0 (some la)) o 1 (some ca)) x0 k = xi u x0 k := fun k => by rw [e2]; show xi (xz u o) x0 k = _; exact (xz_ne nx k).1
    have hk2 : TKx x0 (xsr (xsr u9 o 0 (some la)) o 1 (some ca)) t := ⟨by rw [e0]; exact hk.1, by rw [e0]; exact hk.2.1, by rw [e0]; exact hk.2.2.1, fun z => by rw [e0]; exact hk.2.2.2 z⟩
    unfold xw9_init
    refine ⟨xo, fun u6 e6 u11 e11 => ?_⟩
    subst e6 e11
    unfold xw8_cond_B93
    have hP2 := fun v hf hkv => hP o v ho hf hkv
    rw [hd, ← e1] at hP2
    rw [← e2] at hP2
    refine ⟨xo, x_told ko hd4 ⟨fun c => ?_, fun c => ⟨hT2.1, x_next hT2 hw.2.1 hk2.2.2.1 (fun v hf hkv => ?_)⟩⟩⟩
    · have d0 : d = 0 := by
        rcases Nat.eq_zero_or_pos d with z | z
        · exact z
        · rw [li_0, n_le_f z (by omega)] at c; exact c.elim
      rw [cI_t d0] at hP2
      exact hP2 _ FRx.refl hk2
    · have d0 : ¬ d = 0 := fun z => c (by rw [z]; exact Int32.le_refl _)
      rw [cI_f d0] at hP2
      exact hP2 v hf hkv
  unfold xw8_cond
  refine ⟨t1, x_isWord hT hk hw (by omega) (by omega) ?_⟩
  by_cases c3 : wdP b t 3
  · rw [cI_t c3]
    refine ⟨fun z => absurd z (by decide), fun _ => ⟨hmc, hms, fun o K9 u9 ho e1 e2 => ?_⟩⟩
    unfold xw10_init
    exact fin 1 o K9 u9 (by unfold cdN; rw [cI_t c3]) (by omega) ho e1 e2
  rw [cI_f c3]
  refine ⟨fun _ => x_isWord hT hk hw (by omega) (by omega) ?_, fun z => absurd rfl z⟩
  by_cases c4 : wdP b t 4
  · rw [cI_t c4]
    refine ⟨fun z => absurd z (by decide), fun _ => ⟨hmc, hms, fun o K9 u9 ho e1 e2 => ?_⟩⟩
    unfold xw11_init
    exact fin 2 o K9 u9 (by unfold cdN; rw [cI_f c3, cI_t c4]) (by omega) ho e1 e2
  rw [cI_f c4]
  refine ⟨fun _ => x_isWord hT hk hw (by omega) (by omega) ?_, fun z => absurd rfl z⟩
  by_cases c5 : wdP b t 5
  · rw [cI_t c5]
    refine ⟨fun z => absurd z (by decide), fun _ => ⟨hmc, hms, fun o K9 u9 ho e1 e2 => ?_⟩⟩
    unfold xw12_init
    exact fin 3 o K9 u9 (by unfold cdN; rw [cI_f c3, cI_f c4, cI_t c5]) (by omega) ho e1 e2
  rw [cI_f c5]
  refine ⟨fun _ => x_isWord hT hk hw (by omega) (by omega) ?_, fun z => absurd rfl z⟩
  by_cases c6 : wdP b t 6
  · rw [cI_t c6]
    refine ⟨fun z => absurd z (by decide), fun _ => ⟨hmc, hms, fun o K9 u9 ho e1 e2 => ?_⟩⟩
    unfold xw13_init
    exact fin 4 o K9 u9 (by unfold cdN; rw [cI_f c3, cI_f c4, cI_f c5, cI_t c6]) (by omega) ho e1 e2
  rw [cI_f c6]
  refine ⟨fun _ => ⟨hmc, hms, fun o K9 u9 ho e1 e2 => ?_⟩, fun z => absurd rfl z⟩
  unfold xw14_init
  exact fin 0 o K9 u9 (by unfold cdN; rw [cI_f c3, cI_f c4, cI_f c5, cI_f c6]) (by omega) ho e1 e2
end PRG
