/-! PLAIN LAW: objects that are made; Setter.told whole -/
set_option linter.unusedVariables false
/-- what was there is as it was -/
def AE (K : XK) (u : XS) (K2 : XK) (v : XS) : Prop := ∀ b, (K b).1 ≠ 0 → K2 b = K b ∧ ∀ k, xi v b k = xi u b k ∧ xl v b k = xl u b k ∧ xr v b k = xr u b k
theorem AE.refl {K : XK} {u : XS} : AE K u K u := fun _ _ => ⟨rfl, fun _ => ⟨rfl, rfl, rfl⟩⟩
theorem AE.trans {K K2 K3 : XK} {u v w : XS} (h1 : AE K u K2 v) (h2 : AE K2 v K3 w) : AE K u K3 w := fun b hb => by
  obtain ⟨e1, f1⟩ := h1 b hb
  obtain ⟨e2, f2⟩ := h2 b (by rw [e1]; exact hb)
  exact ⟨e2.trans e1, fun k => ⟨(f2 k).1.trans (f1 k).1, (f2 k).2.1.trans (f1 k).2.1, (f2 k).2.2.trans (f1 k).2.2⟩⟩
theorem AE.free {K K2 : XK} {u v : XS} (h : AE K u K2 v) {q : Nat} (hq : (K2 q).1 = 0) : (K q).1 = 0 := by
  by_cases c : (K q).1 = 0
  · exact c
  · rw [(h q c).1] at hq; exact absurd hq c
/-- q is made, what else is there stays -/
theorem AE.gen {K K2 : XK} {u v v1 : XS} {q : Nat} {y : Nat × Nat} (h : AE K u K2 v) (hq : (K2 q).1 = 0) (hs : ∀ b, b ≠ q → ∀ k, xi v1 b k = xi v b k ∧ xl v1 b k = xl v b k ∧ xr v1 b k = xr v b k) : AE K u (xup K2 q y) v1 := fun b hb => by
  have hn : b ≠ q := fun e => by rw [← e] at hq; exact hb (h.free hq)
  obtain ⟨e, f⟩ := h b hb
  exact ⟨by rw [← e]; unfold xup; rw [if_neg hn], fun k => by rw [(hs b hn k).1, (hs b hn k).2.1, (hs b hn k).2.2]; exact f k⟩
theorem xz_ne {v : XS} {q b : Nat} (h : b ≠ q) (k : Nat) : xi (xz v q) b k = xi v b k ∧ xl (xz v q) b k = xl v b k ∧ xr (xz v q) b k = xr v b k := by
  unfold xi xl xr xz; simp only [if_neg h]; exact ⟨trivial, trivial, trivial⟩
theorem xcp_ne {v : XS} {q b s sp dp n : Nat} (h : b ≠ q) (k : Nat) : xi (xcp v s sp q dp n) b k = xi v b k ∧ xl (xcp v s sp q dp n) b k = xl v b k ∧ xr (xcp v s sp q dp n) b k = xr v b k := by
  refine ⟨?_, rfl, rfl⟩
  unfold xi xcp; simp [h]
theorem xcp_z {v : XS} {q s n k : Nat} (hk : k < n) : xi (xcp v s 0 q 0 n) q k = xi v s k := by
  unfold xi xcp; simp [hk]
/-- an object that is being made: D its arrays, all new; R other references -/
def OB (K0 : XK) (u0 : XS) (K : XK) (v : XS) (o c : Nat) (D : Nat → Option (Nat × Nat × (Nat → Int32))) (R : Nat → Option Nat) : Prop :=
  AE K0 u0 K v ∧ K o = (1, c) ∧ (K0 o).1 = 0 ∧ (∀ f t n g, D f = some (t, n, g) → 2 ≤ t ∧ ∃ q, xr v o f = some q ∧ (K0 q).1 = 0 ∧ K q = (t, n) ∧ ∀ k, k < n → xi v q k = g k) ∧
  (∀ f f2, D f ≠ none → D f2 ≠ none → f ≠ f2 → xr v o f ≠ xr v o f2) ∧ ∀ f q, R f = some q → xr v o f = some q
theorem OB.start {K0 K K1 : XK} {u0 v v1 : XS} {o c : Nat} (h : AE K0 u0 K v) (hq : (K o).1 = 0) (e1 : K1 = xup K o (1, c)) (e2 : v1 = xz v o) : OB K0 u0 K1 v1 o c (fun _ => none) (fun _ => none) := by
  subst e1 e2
  exact ⟨h.gen hq (fun b hb k => xz_ne hb k), by unfold xup; rw [if_pos rfl], h.free hq, fun f t n g e => by simp at e, fun f f2 e => absurd rfl e, fun f q e => by simp at e⟩
theorem OB.gen {K0 K : XK} {u0 v v1 : XS} {o c q f t n : Nat} {g : Nat → Int32} {D : Nat → Option (Nat × Nat × (Nat → Int32))} {R : Nat → Option Nat} (h : OB K0 u0 K v o c D R) (hq : (K q).1 = 0) (ht : 2 ≤ t) (hR : R f = none) (hs : ∀ b, b ≠ q → ∀ k, xi v1 b k = xi v b k ∧ xl v1 b k = xl v b k ∧ xr v1 b k = xr v b k) (hg : ∀ k, k < n → xi v1 q k = g k) :
    OB K0 u0 (xup K q (t, n)) (xsr v1 o f (some q)) o c (up D f (some (t, n, g))) R := by
  obtain ⟨h1, h2, h3, h4, h5, h6⟩ := h
  have hoq : o ≠ q := fun e => by rw [← e, h2] at hq; simp at hq
  have hre : ∀ f2, f2 ≠ f → xr (xsr v1 o f (some q)) o f2 = xr v o f2 := fun f2 hf => by rw [← (hs o hoq f2).2.2]; simp [xr, xsr, hf]
  have hrs : xr (xsr v1 o f (some q)) o f = some q := by simp [xr, xsr]
  have hD : ∀ f2, f2 ≠ f → up D f (some (t, n, g)) f2 = D f2 := fun f2 hf => up_n hf
  refine ⟨?_, ?_, h3, ?_, ?_, ?_⟩
  · have := h1.gen (y := (t, n)) hq hs
    intro b hb
    obtain ⟨e, f3⟩ := this b hb
    refine ⟨e, fun k => ⟨(f3 k).1, (f3 k).2.1, ?_⟩⟩
    rw [← (f3 k).2.2]
    have : b ≠ o := fun e => by rw [e] at hb; exact hb h3
    simp [xr, xsr, this]
  · unfold xup; rw [if_neg hoq, h2]
  · intro f2 t2 n2 g2 e
    by_cases c2 : f2 = f
    · subst c2
      rw [up_s] at e
      injection e with e
      injection e with e1 e
      injection e with e2 e
      subst e1 e2 e
      exact ⟨ht, q, hrs, h1.free hq, by unfold xup; rw [if_pos rfl], fun k hk => hg k hk⟩
    · rw [hD f2 c2] at e
      obtain ⟨x1, q2, x2, x3, x4, x5⟩ := h4 f2 t2 n2 g2 e
      have n2q : q2 ≠ q := fun e => by rw [← e, x4] at hq; simp at hq; omega
      exact ⟨x1, q2, by rw [hre f2 c2, x2], x3, by unfold xup; rw [if_neg n2q, x4], fun k hk => by show xi v1 q2 k = _; rw [(hs q2 n2q k).1, x5 k hk]⟩
  · have key : ∀ f2, f2 ≠ f → D f2 ≠ none → xr v o f2 ≠ some q := by
      intro f2 hf hd e
      cases hc : D f2 with
      | none => exact hd hc
      | some y =>
        obtain ⟨x1, q2, x2, x3, x4, x5⟩ := h4 f2 y.1 y.2.1 y.2.2 hc
        rw [e] at x2
        injection x2 with x2
        rw [x2, x4] at hq; simp at hq; omega
    intro f2 f3 d2 d3 hne
    by_cases c2 : f2 = f
    · subst c2
      have c3 : f3 ≠ f2 := fun e => hne e.symm
      rw [hD f3 c3] at d3
      rw [hrs, hre f3 c3]
      exact fun e => key f3 c3 d3 e.symm
    · rw [hD f2 c2] at d2
      by_cases c3 : f3 = f
      · subst c3
        rw [hrs, hre f2 c2]
        exact fun e => key f2 c2 d2 e
      · rw [hD f3 c3] at d3
        rw [hre f2 c2, hre f3 c3]
        exact h5 f2 f3 d2 d3 hne
  · intro f2 q2 e
    have : f2 ≠ f := fun z => by rw [z, hR] at e; simp at e
    rw [hre f2 this]; exact h6 f2 q2 e
theorem OB.new {K0 K K1 : XK} {u0 v v1 v2 : XS} {o c q f t n : Nat} {D : Nat → Option (Nat × Nat × (Nat → Int32))} {R : Nat → Option Nat} (h : OB K0 u0 K v o c D R) (hq : (K q).1 = 0) (e1 : K1 = xup K q (t, n)) (e2 : v1 = xz v q) (e3 : v2 = xsr v1 o f (some q)) (ht : 2 ≤ t) (hR : R f = none) :
    OB K0 u0 K1 v2 o c (up D f (some (t, n, fun _ => 0))) R := by
  subst e1 e2 e3
  exact h.gen hq ht hR (fun b hb k => xz_ne hb k) (fun k hk => by simp [xi, xz])
theorem OB.ref {K0 K : XK} {u0 v v2 : XS} {o c f : Nat} {x : Nat} {D : Nat → Option (Nat × Nat × (Nat → Int32))} {R : Nat → Option Nat} (h : OB K0 u0 K v o c D R) (e : v2 = xsr v o f (some x)) (hD : D f = none) :
    OB K0 u0 K v2 o c D (up R f (some x)) := by
  subst e
  obtain ⟨h1, h2, h3, h4, h5, h6⟩ := h
  have hre : ∀ f2, f2 ≠ f → xr (xsr v o f (some x)) o f2 = xr v o f2 := fun f2 hf => by simp [xr, xsr, hf]
  refine ⟨?_, h2, h3, ?_, ?_, ?_⟩
  · intro b hb
    obtain ⟨e, f3⟩ := h1 b hb
    refine ⟨e, fun k => ⟨(f3 k).1, (f3 k).2.1, ?_⟩⟩
    rw [← (f3 k).2.2]
    have : b ≠ o := fun e => by rw [e] at hb; exact hb h3
    simp [xr, xsr, this]
  · intro f2 t2 n2 g2 e
    have : f2 ≠ f := fun z => by rw [z, hD] at e; simp at e
    obtain ⟨x1, q2, x2, x3, x4, x5⟩ := h4 f2 t2 n2 g2 e
    exact ⟨x1, q2, by rw [hre f2 this, x2], x3, x4, x5⟩
  · intro f2 f3 d2 d3 hne
    rw [hre f2 (fun z => by rw [z, hD] at d2; exact d2 rfl), hre f3 (fun z => by rw [z, hD] at d3; exact d3 rfl)]
    exact h5 f2 f3 d2 d3 hne
  · intro f2 q2 e
    by_cases c2 : f2 = f
    · subst c2
      rw [up_s] at e
      injection e with e
      subst e
      simp [xr, xsr]
    · rw [up_n c2] at e
      rw [hre f2 c2]; exact h6 f2 q2 e
theorem OB.int {K0 K : XK} {u0 v v2 : XS} {o c f : Nat} {x : Int32} {D : Nat → Option (Nat × Nat × (Nat → Int32))} {R : Nat → Option Nat} (h : OB K0 u0 K v o c D R) (e : v2 = xsi v o f x) : OB K0 u0 K v2 o c D R := by
  subst e
  obtain ⟨h1, h2, h3, h4, h5, h6⟩ := h
  have hne : ∀ b k, b ≠ o → xi (xsi v o f x) b k = xi v b k := fun b k hb => by simp [xi, xsi, hb]
  refine ⟨fun b hb => ?_, h2, h3, fun f2 t2 n2 g2 e => ?_, h5, h6⟩
  · obtain ⟨e, f3⟩ := h1 b hb
    have : b ≠ o := fun e => by rw [e] at hb; exact hb h3
    exact ⟨e, fun k => ⟨by rw [hne b k this]; exact (f3 k).1, (f3 k).2.1, (f3 k).2.2⟩⟩
  · obtain ⟨x1, q2, x2, x3, x4, x5⟩ := h4 f2 t2 n2 g2 e
    have : q2 ≠ o := fun e => by rw [e, h2] at x4; injection x4 with x4; omega
    exact ⟨x1, q2, x2, x3, x4, fun k hk => by rw [hne q2 k this, x5 k hk]⟩
/-- one of its arrays is copied over -/
theorem OB.over {K0 K : XK} {u0 v v2 : XS} {o c f q s n t : Nat} {g : Nat → Int32} {D : Nat → Option (Nat × Nat × (Nat → Int32))} {R : Nat → Option Nat} (h : OB K0 u0 K v o c D R) (hD : D f = some (t, n, g)) (hq : xr v o f = some q) (hs : (K0 s).1 ≠ 0) (e : v2 = xcp v s 0 q 0 n) :
    OB K0 u0 K v2 o c (up D f (some (t, n, fun k => xi u0 s k))) R := by
  subst e
  obtain ⟨h1, h2, h3, h4, h5, h6⟩ := h
  obtain ⟨x1, q2, x2, x3, x4, x5⟩ := h4 f t n g hD
  rw [hq] at x2
  injection x2 with x2
  subst x2
  refine ⟨fun b hb => ?_, h2, h3, fun f2 t2 n2 g2 e => ?_, fun f2 f3 d2 d3 hne => ?_, h6⟩
  · obtain ⟨e, f3⟩ := h1 b hb
    have : b ≠ q := fun e => by rw [e] at hb; exact hb x3
    exact ⟨e, fun k => by rw [(xcp_ne this k).1, (xcp_ne this k).2.1, (xcp_ne this k).2.2]; exact f3 k⟩
  · by_cases c2 : f2 = f
    · subst c2
      rw [up_s] at e
      injection e with e
      injection e with e1 e
      injection e with e2 e
      subst e1 e2 e
      exact ⟨x1, q, hq, x3, x4, fun k hk => by rw [xcp_z hk]; exact ((h1 s hs).2 k).1⟩
    · rw [up_n c2] at e
      obtain ⟨y1, q2, y2, y3, y4, y5⟩ := h4 f2 t2 n2 g2 e
      have : q2 ≠ q := fun z => by
        refine h5 f2 f (by rw [e]; simp) (by rw [hD]; simp) c2 ?_
        rw [y2, hq, z]
      exact ⟨y1, q2, y2, y3, y4, fun k hk => by rw [(xcp_ne this k).1, y5 k hk]⟩
  · refine h5 f2 f3 ?_ ?_ hne
    · by_cases c2 : f2 = f
      · rw [c2, hD]; simp
      · rw [up_n c2] at d2; exact d2
    · by_cases c2 : f3 = f
      · rw [c2, hD]; simp
      · rw [up_n c2] at d3; exact d3
theorem x_cutF {K0 K : XK} {u0 v : XS} {o c f s src n ns mc ms : Nat} {D : Nat → Option (Nat × Nat × (Nat → Int32))} {R : Nat → Option Nat} {P : Nat → XK → XS → Prop} (h : OB K0 u0 K v o c D R) (hs : K0 src = (2, ns)) (hn : n ≤ ns) (hn2 : n ≤ 60000000) (hmc : 1 ≤ mc) (hms : n ≤ ms) (hR : R f = none)
    (hP : ∀ q K2 v1, (∀ v2, v2 = xsr v1 o f (some q) → OB K0 u0 K2 v2 o c (up D f (some (2, n, fun k => xi u0 src k))) R) → P q K2 v1) : xw6_cut s src (nI n) K v mc ms P := by
  have hs0 : (K0 src).1 ≠ 0 := by rw [hs]; simp
  have ks : K src = (2, ns) := by rw [(h.1 src hs0).1, hs]
  unfold xw6_cut
  refine ⟨by simp (disch := omega) only [forall_eq, forall_eq', exists_eq_left, exists_eq_left', true_and, and_true, true_implies, false_implies, not_true_eq_false, not_false_eq_true, Prod.mk.injEq, Option.some.injEq, reduceCtorEq, and_self, implies_true, eq_self, Classical.not_not, and_false, false_and, ite_true, ite_false, reduceIte, bI_0, or_false, false_or, or_true, true_or, or_self, if_true, if_false, n_le_t, n_le_f, n_lt_t, n_lt_f, n_eq_t, n_eq_f, n_toInt, n_cl, n_vp, n_eqM, M_eqn, n_leM, n_ltM, M_len, M_ltn, M_add, n_sub, iM_toInt, x_lt_t, x_lt_f, x_le_t, x_le_f, lt_x_t, lt_x_f, le_x_t, le_x_f, x_eq_f, nI_add, pk_mul, bI_t, bI_f, Int32.toInt_toInt64, n_subI, x_add0, i_le_t, i_le_f, i_lt_t, i_lt_f, k_le_t, k_le_f, k_lt_t, k_lt_f, li_0, li_1, li_2, li_3, li_4, li_5, li_6, li_7, li_8, li_9, li_10, li_11, li_12, li_16, li_20, li_24, li_25, li_26, li_30, li_31, li_32, li_40, li_48, li_49, li_57, li_59, li_60, li_63, li_64, li_65, li_90, li_96, li_97, li_106, li_122, li_255, li_300, li_600, li_800, li_900, li_1850, li_2000, li_2010, li_2040, li_2801, li_3300, li_4161, li_9999, li_10163, li_16500, li_16800, li_17100, li_18350, li_18510, li_18540, li_65536, li_100000, li_999999, li_1000000, li_2147483647, im_1, im_8, ll_0, ll_1, ll_2, ll_3, ll_4, ll_6, ll_16, ll_20, ll_40, ll_63, ll_800, ll_9999, jm_same, jm_ob, jm_ok, jm_il, jm_li, jm_lsame, jm_lob, jm_lok, Nat.reduceAdd, Nat.reduceMul, Nat.zero_add, Nat.add_zero, Nat.mul_zero, Nat.zero_mul, e_mw_isSmall, e_mw_isDigit, e_mw_isDigit0, e_mw_isGreat, e_xs_isSmall, e_xs_isFigure, e_xs_isGreat, e_mw_isLetter, e_xs_isLetter, e_isBlank, e_xs_isBlank, e_isFrom, e_isIn], by simp (disch := omega) only [forall_eq, forall_eq', exists_eq_left, exists_eq_left', true_and, and_true, true_implies, false_implies, not_true_eq_false, not_false_eq_true, Prod.mk.injEq, Option.some.injEq, reduceCtorEq, and_self, implies_true, eq_self, Classical.not_not, and_false, false_and, ite_true, ite_false, reduceIte, bI_0, or_false, false_or, or_true, true_or, or_self, if_true, if_false, n_le_t, n_le_f, n_lt_t, n_lt_f, n_eq_t, n_eq_f, n_toInt, n_cl, n_vp, n_eqM, M_eqn, n_leM, n_ltM, M_len, M_ltn, M_add, n_sub, iM_toInt, x_lt_t, x_lt_f, x_le_t, x_le_f, lt_x_t, lt_x_f, le_x_t, le_x_f, x_eq_f, nI_add, pk_mul, bI_t, bI_f, Int32.toInt_toInt64, n_subI, x_add0, i_le_t, i_le_f, i_lt_t, i_lt_f, k_le_t, k_le_f, k_lt_t, k_lt_f, li_0, li_1, li_2, li_3, li_4, li_5, li_6, li_7, li_8, li_9, li_10, li_11, li_12, li_16, li_20, li_24, li_25, li_26, li_30, li_31, li_32, li_40, li_48, li_49, li_57, li_59, li_60, li_63, li_64, li_65, li_90, li_96, li_97, li_106, li_122, li_255, li_300, li_600, li_800, li_900, li_1850, li_2000, li_2010, li_2040, li_2801, li_3300, li_4161, li_9999, li_10163, li_16500, li_16800, li_17100, li_18350, li_18510, li_18540, li_65536, li_100000, li_999999, li_1000000, li_2147483647, im_1, im_8, ll_0, ll_1, ll_2, ll_3, ll_4, ll_6, ll_16, ll_20, ll_40, ll_63, ll_800, ll_9999, jm_same, jm_ob, jm_ok, jm_il, jm_li, jm_lsame, jm_lob, jm_lok, Nat.reduceAdd, Nat.reduceMul, Nat.zero_add, Nat.add_zero, Nat.mul_zero, Nat.zero_mul, e_mw_isSmall, e_mw_isDigit, e_mw_isDigit0, e_mw_isGreat, e_xs_isSmall, e_xs_isFigure, e_xs_isGreat, e_mw_isLetter, e_xs_isLetter, e_isBlank, e_xs_isBlank, e_isFrom, e_isIn], hmc, by simp (disch := omega) only [forall_eq, forall_eq', exists_eq_left, exists_eq_left', true_and, and_true, true_implies, false_implies, not_true_eq_false, not_false_eq_true, Prod.mk.injEq, Option.some.injEq, reduceCtorEq, and_self, implies_true, eq_self, Classical.not_not, and_false, false_and, ite_true, ite_false, reduceIte, bI_0, or_false, false_or, or_true, true_or, or_self, if_true, if_false, n_le_t, n_le_f, n_lt_t, n_lt_f, n_eq_t, n_eq_f, n_toInt, n_cl, n_vp, n_eqM, M_eqn, n_leM, n_ltM, M_len, M_ltn, M_add, n_sub, iM_toInt, x_lt_t, x_lt_f, x_le_t, x_le_f, lt_x_t, lt_x_f, le_x_t, le_x_f, x_eq_f, nI_add, pk_mul, bI_t, bI_f, Int32.toInt_toInt64, n_subI, x_add0, i_le_t, i_le_f, i_lt_t, i_lt_f, k_le_t, k_le_f, k_lt_t, k_lt_f, li_0, li_1, li_2, li_3, li_4, li_5, li_6, li_7, li_8, li_9, li_10, li_11, li_12, li_16, li_20, li_24, li_25, li_26, li_30, li_31, li_32, li_40, li_48, li_49, li_57, li_59, li_60, li_63, li_64, li_65, li_90, li_96, li_97, li_106, li_122, li_255, li_300, li_600, li_800, li_900, li_1850, li_2000, li_2010, li_2040, li_2801, li_3300, li_4161, li_9999, li_10163, li_16500, li_16800, li_17100, li_18350, li_18510, li_18540, li_65536, li_100000, li_999999, li_1000000, li_2147483647, im_1, im_8, ll_0, ll_1, ll_2, ll_3, ll_4, ll_6, ll_16, ll_20, ll_40, ll_63, ll_800, ll_9999, jm_same, jm_ob, jm_ok, jm_il, jm_li, jm_lsame, jm_lob, jm_lok, Nat.reduceAdd, Nat.reduceMul, Nat.zero_add, Nat.add_zero, Nat.mul_zero, Nat.zero_mul, e_mw_isSmall, e_mw_isDigit, e_mw_isDigit0, e_mw_isGreat, e_xs_isSmall, e_xs_isFigure, e_xs_isGreat, e_mw_isLetter, e_xs_isLetter, e_isBlank, e_xs_isBlank, e_isFrom, e_isIn], fun q K1 u1 hq e1 e2 => ?_⟩
  have hsq : src ≠ q := fun e => by rw [← e, ks] at hq; simp at hq
  subst e1 e2
  refine ⟨ns, by unfold xup; rw [if_neg hsq, ks], by decide, by decide, by simp (disch := omega) only [forall_eq, forall_eq', exists_eq_left, exists_eq_left', true_and, and_true, true_implies, false_implies, not_true_eq_false, not_false_eq_true, Prod.mk.injEq, Option.some.injEq, reduceCtorEq, and_self, implies_true, eq_self, Classical.not_not, and_false, false_and, ite_true, ite_false, reduceIte, bI_0, or_false, false_or, or_true, true_or, or_self, if_true, if_false, n_le_t, n_le_f, n_lt_t, n_lt_f, n_eq_t, n_eq_f, n_toInt, n_cl, n_vp, n_eqM, M_eqn, n_leM, n_ltM, M_len, M_ltn, M_add, n_sub, iM_toInt, x_lt_t, x_lt_f, x_le_t, x_le_f, lt_x_t, lt_x_f, le_x_t, le_x_f, x_eq_f, nI_add, pk_mul, bI_t, bI_f, Int32.toInt_toInt64, n_subI, x_add0, i_le_t, i_le_f, i_lt_t, i_lt_f, k_le_t, k_le_f, k_lt_t, k_lt_f, li_0, li_1, li_2, li_3, li_4, li_5, li_6, li_7, li_8, li_9, li_10, li_11, li_12, li_16, li_20, li_24, li_25, li_26, li_30, li_31, li_32, li_40, li_48, li_49, li_57, li_59, li_60, li_63, li_64, li_65, li_90, li_96, li_97, li_106, li_122, li_255, li_300, li_600, li_800, li_900, li_1850, li_2000, li_2010, li_2040, li_2801, li_3300, li_4161, li_9999, li_10163, li_16500, li_16800, li_17100, li_18350, li_18510, li_18540, li_65536, li_100000, li_999999, li_1000000, li_2147483647, im_1, im_8, ll_0, ll_1, ll_2, ll_3, ll_4, ll_6, ll_16, ll_20, ll_40, ll_63, ll_800, ll_9999, jm_same, jm_ob, jm_ok, jm_il, jm_li, jm_lsame, jm_lob, jm_lok, Nat.reduceAdd, Nat.reduceMul, Nat.zero_add, Nat.add_zero, Nat.mul_zero, Nat.zero_mul, e_mw_isSmall, e_mw_isDigit, e_mw_isDigit0, e_mw_isGreat, e_xs_isSmall, e_xs_isFigure, e_xs_isGreat, e_mw_isLetter, e_xs_isLetter, e_isBlank, e_xs_isBlank, e_isFrom, e_isIn], by simp (disch := omega) only [forall_eq, forall_eq', exists_eq_left, exists_eq_left', true_and, and_true, true_implies, false_implies, not_true_eq_false, not_false_eq_true, Prod.mk.injEq, Option.some.injEq, reduceCtorEq, and_self, implies_true, eq_self, Classical.not_not, and_false, false_and, ite_true, ite_false, reduceIte, bI_0, or_false, false_or, or_true, true_or, or_self, if_true, if_false, n_le_t, n_le_f, n_lt_t, n_lt_f, n_eq_t, n_eq_f, n_toInt, n_cl, n_vp, n_eqM, M_eqn, n_leM, n_ltM, M_len, M_ltn, M_add, n_sub, iM_toInt, x_lt_t, x_lt_f, x_le_t, x_le_f, lt_x_t, lt_x_f, le_x_t, le_x_f, x_eq_f, nI_add, pk_mul, bI_t, bI_f, Int32.toInt_toInt64, n_subI, x_add0, i_le_t, i_le_f, i_lt_t, i_lt_f, k_le_t, k_le_f, k_lt_t, k_lt_f, li_0, li_1, li_2, li_3, li_4, li_5, li_6, li_7, li_8, li_9, li_10, li_11, li_12, li_16, li_20, li_24, li_25, li_26, li_30, li_31, li_32, li_40, li_48, li_49, li_57, li_59, li_60, li_63, li_64, li_65, li_90, li_96, li_97, li_106, li_122, li_255, li_300, li_600, li_800, li_900, li_1850, li_2000, li_2010, li_2040, li_2801, li_3300, li_4161, li_9999, li_10163, li_16500, li_16800, li_17100, li_18350, li_18510, li_18540, li_65536, li_100000, li_999999, li_1000000, li_2147483647, im_1, im_8, ll_0, ll_1, ll_2, ll_3, ll_4, ll_6, ll_16, ll_20, ll_40, ll_63, ll_800, ll_9999, jm_same, jm_ob, jm_ok, jm_il, jm_li, jm_lsame, jm_lob, jm_lok, Nat.reduceAdd, Nat.reduceMul, Nat.zero_add, Nat.add_zero, Nat.mul_zero, Nat.zero_mul, e_mw_isSmall, e_mw_isDigit, e_mw_isDigit0, e_mw_isGreat, e_xs_isSmall, e_xs_isFigure, e_xs_isGreat, e_mw_isLetter, e_xs_isLetter, e_isBlank, e_xs_isBlank, e_isFrom, e_isIn], by simp (disch := omega) only [forall_eq, forall_eq', exists_eq_left, exists_eq_left', true_and, and_true, true_implies, false_implies, not_true_eq_false, not_false_eq_true, Prod.mk.injEq, Option.some.injEq, reduceCtorEq, and_self, implies_true, eq_self, Classical.not_not, and_false, false_and, ite_true, ite_false, reduceIte, bI_0, or_false, false_or, or_true, true_or, or_self, if_true, if_false, n_le_t, n_le_f, n_lt_t, n_lt_f, n_eq_t, n_eq_f, n_toInt, n_cl, n_vp, n_eqM, M_eqn, n_leM, n_ltM, M_len, M_ltn, M_add, n_sub, iM_toInt, x_lt_t, x_lt_f, x_le_t, x_le_f, lt_x_t, lt_x_f, le_x_t, le_x_f, x_eq_f, nI_add, pk_mul, bI_t, bI_f, Int32.toInt_toInt64, n_subI, x_add0, i_le_t, i_le_f, i_lt_t, i_lt_f, k_le_t, k_le_f, k_lt_t, k_lt_f, li_0, li_1, li_2, li_3, li_4, li_5, li_6, li_7, li_8, li_9, li_10, li_11, li_12, li_16, li_20, li_24, li_25, li_26, li_30, li_31, li_32, li_40, li_48, li_49, li_57, li_59, li_60, li_63, li_64, li_65, li_90, li_96, li_97, li_106, li_122, li_255, li_300, li_600, li_800, li_900, li_1850, li_2000, li_2010, li_2040, li_2801, li_3300, li_4161, li_9999, li_10163, li_16500, li_16800, li_17100, li_18350, li_18510, li_18540, li_65536, li_100000, li_999999, li_1000000, li_2147483647, im_1, im_8, ll_0, ll_1, ll_2, ll_3, ll_4, ll_6, ll_16, ll_20, ll_40, ll_63, ll_800, ll_9999, jm_same, jm_ob, jm_ok, jm_il, jm_li, jm_lsame, jm_lob, jm_lok, Nat.reduceAdd, Nat.reduceMul, Nat.zero_add, Nat.add_zero, Nat.mul_zero, Nat.zero_mul, e_mw_isSmall, e_mw_isDigit, e_mw_isDigit0, e_mw_isGreat, e_xs_isSmall, e_xs_isFigure, e_xs_isGreat, e_mw_isLetter, e_xs_isLetter, e_isBlank, e_xs_isBlank, e_isFrom, e_isIn], fun u9 e9 => ?_⟩
  have e0 : (0 : Int32).toNatClampNeg = 0 := rfl
  rw [e0, n_cl (by omega)] at e9
  rw [n_cl (by omega)]
  subst e9
  refine hP q _ _ (fun v2 e => ?_)
  subst e
  exact h.gen hq (by omega) hR (fun b hb k => by
    have a1 := xcp_ne (v := xz v q) (s := src) (sp := 0) (dp := 0) (n := n) hb k
    have a2 := xz_ne (v := v) hb k
    exact ⟨a1.1.trans a2.1, a1.2.1.trans a2.2.1, a1.2.2.trans a2.2.2⟩) (fun k hk => by rw [xcp_z hk, (xz_ne hsq k).1]; exact ((h.1 src hs0).2 k).1)
