/-! PLAIN LAW: calls that only answer, but make objects; setter() -/
set_option linter.unusedVariables false
def XA (a0 : Nat) (K : XK) (ow : Nat → Nat) (u : XS) (K2 : XK) (ow2 : Nat → Nat) (v : XS) : Prop :=
  (∀ b, (K b).1 ≠ 0 → K2 b = K b ∧ ow2 b = ow b) ∧ (∀ b k, (K b).1 ≠ 0 → ¬ xsc (ow b) → ¬ (b = a0 ∧ k = 7) → xi v b k = xi u b k) ∧
  (∀ b k, (K b).1 ≠ 0 → ¬ xsc (ow b) → xl v b k = xl u b k) ∧ ∀ b k, (K b).1 ≠ 0 → ¬ (ow b = 300 ∧ k = 2) → ¬ (b = a0 ∧ k = 13) → xr v b k = xr u b k
theorem XA.of {a0 : Nat} {K : XK} {ow : Nat → Nat} {u v : XS} (h : QX ow a0 u v) : XA a0 K ow u K ow v :=
  ⟨fun _ _ => ⟨rfl, rfl⟩, fun b k _ q q2 => h.1 b k q q2, fun b k _ q => h.2.1 b k q, fun b k _ q _ => h.2.2 b k q⟩
theorem XA.refl {a0 : Nat} {K : XK} {ow : Nat → Nat} {u : XS} : XA a0 K ow u K ow u := XA.of QX.refl
theorem XA.trans {a0 : Nat} {K K2 K3 : XK} {ow ow2 ow3 : Nat → Nat} {u v w : XS} (h1 : XA a0 K ow u K2 ow2 v) (h2 : XA a0 K2 ow2 v K3 ow3 w) : XA a0 K ow u K3 ow3 w := by
  have hk : ∀ b, (K b).1 ≠ 0 → (K2 b).1 ≠ 0 := fun b hb => by rw [(h1.1 b hb).1]; exact hb
  refine ⟨fun b hb => ⟨(h2.1 b (hk b hb)).1.trans (h1.1 b hb).1, (h2.1 b (hk b hb)).2.trans (h1.1 b hb).2⟩, fun b k hb q q2 => ?_, fun b k hb q => ?_, fun b k hb q q2 => ?_⟩
  · have e := (h1.1 b hb).2
    exact (h2.2.1 b k (hk b hb) (by rw [e]; exact q) q2).trans (h1.2.1 b k hb q q2)
  · have e := (h1.1 b hb).2
    exact (h2.2.2.1 b k (hk b hb) (by rw [e]; exact q)).trans (h1.2.2.1 b k hb q)
  · have e := (h1.1 b hb).2
    exact (h2.2.2.2 b k (hk b hb) (by rw [e]; exact q) q2).trans (h1.2.2.2 b k hb q q2)
theorem XA.ae {a0 : Nat} {K K2 : XK} {ow ow2 : Nat → Nat} {u v : XS} (h : AE K u K2 v) (ho : ∀ b, (K b).1 ≠ 0 → ow2 b = ow b) : XA a0 K ow u K2 ow2 v :=
  ⟨fun b hb => ⟨(h b hb).1, ho b hb⟩, fun b k hb _ _ => ((h b hb).2 k).1, fun b k hb _ => ((h b hb).2 k).2.1, fun b k hb _ _ => ((h b hb).2 k).2.2⟩
theorem XA.fz {a0 : Nat} {K K2 : XK} {ow ow2 : Nat → Nat} {u v : XS} (h0 : ow a0 = 0) (h : XA a0 K ow u K2 ow2 v) : Fz K ow u K2 ow2 v :=
  ⟨h.1, fun b k hb ho => ⟨h.2.1 b k hb (by unfold xsc; omega) (fun q => by rw [q.1] at ho; omega), h.2.2.2 b k hb (by omega) (fun q => by rw [q.1] at ho; omega)⟩⟩
theorem XA.set {a : Nat → Nat} {K K2 : XK} {ow ow2 : Nat → Nat} {u v : XS} {s : Nat} {as : Nat → Nat} (h0 : ow (a 0) = 0) (h : XA (a 0) K ow u K2 ow2 v) (hs : rSet a K ow u s as) : rSet a K2 ow2 v s as := by
  obtain ⟨ks, os, ⟨t, pt, kt⟩, p21, ⟨p8, k8, o8⟩, ⟨p9, k9, o9⟩, ⟨p10, k10, o10⟩, ⟨p11, k11, o11⟩, ⟨p12, k12, o12⟩, ⟨p13, k13, o13⟩, ⟨p14, k14, o14⟩, ⟨p15, k15, o15⟩, ⟨p16, k16, o16⟩, ⟨p20, k20, o20⟩⟩ := hs
  have nz : ∀ {q t n : Nat}, K q = (t, n) → t ≠ 0 → (K q).1 ≠ 0 := fun {q t n} e ht => by rw [e]; exact ht
  have hk : ∀ {q t n : Nat}, K q = (t, n) → t ≠ 0 → K2 q = (t, n) := fun {q t n} e ht => by rw [(h.1 q (nz e ht)).1, e]
  have ho : ∀ {q t n r : Nat}, K q = (t, n) → t ≠ 0 → ow q = r → ow2 q = r := fun {q t n r} e ht e2 => by rw [(h.1 q (nz e ht)).2, e2]
  have n0 : s ≠ a 0 := fun e => by rw [e] at os; omega
  have es : ∀ k, k ≠ 2 → xr v s k = xr u s k := fun k hk => h.2.2.2 s k (nz ks (by omega)) (fun q => hk q.2) (fun q => n0 q.1)
  exact ⟨hk ks (by omega), ho ks (by omega) os, ⟨t, by rw [es 0 (by omega), pt], hk kt (by omega)⟩, by rw [es 21 (by omega), p21],
    ⟨by rw [es 8 (by omega), p8], hk k8 (by omega), ho k8 (by omega) o8⟩, ⟨by rw [es 9 (by omega), p9], hk k9 (by omega), ho k9 (by omega) o9⟩, ⟨by rw [es 10 (by omega), p10], hk k10 (by omega), ho k10 (by omega) o10⟩, ⟨by rw [es 11 (by omega), p11], hk k11 (by omega), ho k11 (by omega) o11⟩, ⟨by rw [es 12 (by omega), p12], hk k12 (by omega), ho k12 (by omega) o12⟩, ⟨by rw [es 13 (by omega), p13], hk k13 (by omega), ho k13 (by omega) o13⟩, ⟨by rw [es 14 (by omega), p14], hk k14 (by omega), ho k14 (by omega) o14⟩, ⟨by rw [es 15 (by omega), p15], hk k15 (by omega), ho k15 (by omega) o15⟩, ⟨by rw [es 16 (by omega), p16], hk k16 (by omega), ho k16 (by omega) o16⟩, ⟨by rw [es 20 (by omega), p20], hk k20 (by omega), ho k20 (by omega) o20⟩⟩
/-- what both sides hold, but the setter -/
def Rep0 (a : Nat → Nat) (K : XK) (ow : Nat → Nat) (u : XS) (m : MS) : Prop :=
  rSta a K ow u ∧ rSca a u m ∧ (∀ t, t < 4 → rTray K ow u m (a (6 + t)) t) ∧ rHou K ow u (a 2) (sl m 0) ∧ rMar a K ow u m
/-- the setter -/
def XT (a : Nat → Nat) (K : XK) (ow : Nat → Nat) (u : XS) : Prop := ∃ s as, xr u (a 0) 13 = some s ∧ rSet a K ow u s as
/-! parts of it, carried along; an address book that stays -/
section XAK
variable {a : Nat → Nat} {K K2 : XK} {ow ow2 : Nat → Nat} {u v : XS} {m n : MS}
theorem rSta.nz (h : rSta a K ow u) {i : Nat} (hi : i ≤ 20) : (K (a i)).1 ≠ 0 := by
  obtain ⟨⟨k0, k1, k2, k3, k4, k5, k6, k7, k8, k9, k10, k11, k12, k13, k14, k15, k16, k17, k18, k19, k20⟩, _⟩ := h
  have : i = 0 ∨ i = 1 ∨ i = 2 ∨ i = 3 ∨ i = 4 ∨ i = 5 ∨ i = 6 ∨ i = 7 ∨ i = 8 ∨ i = 9 ∨ i = 10 ∨ i = 11 ∨ i = 12 ∨ i = 13 ∨ i = 14 ∨ i = 15 ∨ i = 16 ∨ i = 17 ∨ i = 18 ∨ i = 19 ∨ i = 20 := by omega
  rcases this with e | e | e | e | e | e | e | e | e | e | e | e | e | e | e | e | e | e | e | e | e <;> subst e <;> simp only [k0, k1, k2, k3, k4, k5, k6, k7, k8, k9, k10, k11, k12, k13, k14, k15, k16, k17, k18, k19, k20] <;> omega
theorem rSta.g (h : rSta a K ow u) (hk : ∀ b, (K b).1 ≠ 0 → K2 b = K b ∧ ow2 b = ow b) (e0 : ∀ k, k ≤ 25 → k ≠ 13 → xr v (a 0) k = xr u (a 0) k) (e5 : ∀ k, k < 4 → xr v (a 5) k = xr u (a 5) k) : rSta a K2 ow2 v := by
  have nz := fun i hi => h.nz (i := i) hi
  have kk : ∀ i, i ≤ 20 → K2 (a i) = K (a i) := fun i hi => (hk _ (nz i hi)).1
  obtain ⟨hK, hO, hp, ht⟩ := h
  refine ⟨?_, fun i hi => by rw [(hk _ (nz i hi)).2, hO i hi], ?_, ?_⟩
  · rw [kk 0 (by omega), kk 1 (by omega), kk 2 (by omega), kk 3 (by omega), kk 4 (by omega), kk 5 (by omega), kk 6 (by omega), kk 7 (by omega), kk 8 (by omega), kk 9 (by omega), kk 10 (by omega), kk 11 (by omega), kk 12 (by omega), kk 13 (by omega), kk 14 (by omega), kk 15 (by omega), kk 16 (by omega), kk 17 (by omega), kk 18 (by omega), kk 19 (by omega), kk 20 (by omega)]
    exact hK
  · rw [e0 0 (by omega) (by omega), e0 1 (by omega) (by omega), e0 2 (by omega) (by omega), e0 6 (by omega) (by omega), e0 10 (by omega) (by omega), e0 11 (by omega) (by omega), e0 14 (by omega) (by omega), e0 15 (by omega) (by omega), e0 16 (by omega) (by omega), e0 17 (by omega) (by omega), e0 18 (by omega) (by omega), e0 21 (by omega) (by omega), e0 22 (by omega) (by omega), e0 23 (by omega) (by omega), e0 24 (by omega) (by omega), e0 25 (by omega) (by omega)]
    exact hp
  · rw [e5 0 (by omega), e5 1 (by omega), e5 2 (by omega), e5 3 (by omega)]
    exact ht
theorem rTray.g {o t : Nat} (h : rTray K ow u m o t) (ho : xr v o 0 = xr u o 0) (hx : ∀ b, (K b).1 ≠ 0 → ow b = 60 + t → K2 b = K b ∧ ow2 b = ow b ∧ ∀ k, xi v b k = xi u b k ∧ xl v b k = xl u b k) (h3 : jm_i n 3 t = jm_i m 3 t) (h2 : jm_i n 2 t = jm_i m 2 t) (h4 : ∀ k, k < 60 → jm_l n 4 (60 * t + k) = jm_l m 4 (60 * t + k)) : rTray K2 ow2 v n o t := by
  unfold rTray
  rw [ho, h3, h2]
  rcases h with q | ⟨q, n2, s2, q1, q2, q3, q4, q5, q6⟩
  · exact Or.inl q
  · obtain ⟨y1, y2, y3⟩ := hx q (by rw [q3]; show s2 + 2 ≠ 0; omega) q2
    refine Or.inr ⟨q, n2, s2, q1, by rw [y2, q2], by rw [y1, q3], q4, q5, ?_⟩
    have e1 : ∀ k, xi v q k = xi u q k := fun k => (y3 k).1
    have e2 : ∀ k, xl v q k = xl u q k := fun k => (y3 k).2
    simp only [e1, e2]
    rcases q6 with ⟨z1, z2, z3⟩ | ⟨z1, z2, z3⟩ | ⟨z1, z2, z3⟩ | ⟨z1, z2, z3⟩
    · exact Or.inl ⟨z1, z2, fun k hk => by rw [h4 k (by omega)]; exact z3 k hk⟩
    · exact Or.inr (Or.inl ⟨z1, z2, fun k hk => by rw [h4 k (by omega)]; exact z3 k hk⟩)
    · exact Or.inr (Or.inr (Or.inl ⟨z1, z2, fun k hk => by rw [h4 k (by omega)]; exact z3 k hk⟩))
    · exact Or.inr (Or.inr (Or.inr ⟨z1, z2, fun k hk => by rw [h4 k (by omega)]; exact z3 k hk⟩))
theorem rMar.g (h : rMar a K ow u m) (hF : Fz K ow u K2 ow2 v) (e12 : xi v (a 0) 12 = xi u (a 0) 12) (e45 : jm_i n 0 45 = jm_i m 0 45) (e10 : ∀ i, i < 3 → xr v (a 10) i = xr u (a 10) i) (hx : ∀ b i, (K b).1 ≠ 0 → i < 3 → ow b = 70 + i → ∀ k, xi v b k = xi u b k ∧ xr v b k = xr u b k) (hs : ∀ i, i < 3 → sl n (i + 1) = sl m (i + 1)) : rMar a K2 ow2 v n := by
  obtain ⟨q, q1, q2, q3, q4⟩ := h
  refine ⟨q, q1, by rw [e12, q2], by rw [e45, q3], fun i hi => ?_⟩
  rw [e10 i hi, hs i hi]
  rcases q4 i hi with q5 | ⟨o, q5, q6, q7, q8⟩
  · exact Or.inl q5
  · have no : (K o).1 ≠ 0 := by rw [q6]; simp
    exact Or.inr ⟨o, q5, by rw [(hF.1 o no).1, q6], by rw [(hF.1 o no).2, q7], fun hin => (q8 hin).fz hF ((hx o i no hi q7 0).2) ((hx o i no hi q7 1).1) ((hx o i no hi q7 2).2)⟩
/-- a call that only answers keeps what both sides hold -/
theorem Rep0.g (h : Rep0 a K ow u m) (hM : QM m n) (hX : XA (a 0) K ow u K2 ow2 v) (hs : xi v (a 0) 7 = jm_i n 0 1) : Rep0 a K2 ow2 v n := by
  obtain ⟨hSt, hc, hy, hh, hm⟩ := h
  have nz := fun i hi => hSt.nz (i := i) hi
  have hO := hSt.2.1
  have o0 : ow (a 0) = 0 := hO 0 (by omega)
  have o1 : ow (a 1) = 1 := hO 1 (by omega)
  have o2 : ow (a 2) = 2 := hO 2 (by omega)
  have o3 : ow (a 3) = 3 := hO 3 (by omega)
  have o4 : ow (a 4) = 4 := hO 4 (by omega)
  have o5 : ow (a 5) = 5 := hO 5 (by omega)
  have o10 : ow (a 10) = 10 := hO 10 (by omega)
  have hF : Fz K ow u K2 ow2 v := hX.fz o0
  have n1 : a 1 ≠ a 0 := fun e => by rw [e] at o1; omega
  have n2 : a 2 ≠ a 0 := fun e => by rw [e] at o2; omega
  have n3 : a 3 ≠ a 0 := fun e => by rw [e] at o3; omega
  have n4 : a 4 ≠ a 0 := fun e => by rw [e] at o4; omega
  have n5 : a 5 ≠ a 0 := fun e => by rw [e] at o5; omega
  have n10 : a 10 ≠ a 0 := fun e => by rw [e] at o10; omega
  have er : ∀ b k, (K b).1 ≠ 0 → ow b ≠ 300 → b ≠ a 0 → xr v b k = xr u b k := fun b k hb q q2 => hX.2.2.2 b k hb (fun z => q z.1) (fun z => q2 z.1)
  have ei : ∀ k, k ≠ 7 → xi v (a 0) k = xi u (a 0) k := fun k hk => hX.2.1 (a 0) k (nz 0 (by omega)) (by rw [o0]; unfold xsc; omega) (fun q => hk q.2)
  have e0 : ∀ k, k ≠ 13 → xr v (a 0) k = xr u (a 0) k := fun k hk => hX.2.2.2 _ k (nz 0 (by omega)) (by omega) (fun z => hk z.2)
  have eb : ∀ b k, (K b).1 ≠ 0 → ¬ xsc (ow b) → b ≠ a 0 → xi v b k = xi u b k := fun b k hb q q2 => hX.2.1 b k hb q (fun q3 => q2 q3.1)
  have em : ∀ b k, ¬ scr b k → jm_i n b k = jm_i m b k := fun b k q => (hM b k q).1
  have el : ∀ b k, ¬ scr b k → jm_l n b k = jm_l m b k := fun b k q => (hM b k q).2
  refine ⟨hSt.g hX.1 (fun k _ hk => e0 k hk) (fun k _ => er _ k (nz 5 (by omega)) (by omega) n5), ?_, fun t ht => ?_, ?_, ?_⟩
  · obtain ⟨⟨c1, c2⟩, c3, c4, c5, c6, c7, c8, c9, c10⟩ := hc
    have m9 := em 0 9 (by unfold scr; omega)
    have m15 := em 0 15 (by unfold scr; omega)
    have m16 := em 0 16 (by unfold scr; omega)
    have m36 := em 0 36 (by unfold scr; omega)
    have m37 := em 0 37 (by unfold scr; omega)
    have m42 := em 0 42 (by unfold scr; omega)
    refine ⟨⟨by rw [ei 3 (by omega), m9, c1], by rw [m9]; exact c2⟩, by rw [ei 4 (by omega), m15, c3], by rw [ei 5 (by omega), m16, c4], hs, by rw [hX.2.2.1 _ _ (nz 0 (by omega)) (by rw [o0]; unfold xsc; omega), el 0 2 (by unfold scr; omega), c6], by rw [hX.2.2.1 _ _ (nz 0 (by omega)) (by rw [o0]; unfold xsc; omega), el 0 3 (by unfold scr; omega), c7],
      fun k hk => by rw [eb _ k (nz 1 (by omega)) (by rw [o1]; unfold xsc; omega) n1, em 5 k (by unfold scr; omega)]; exact c8 k hk, ?_, ?_⟩
    · rw [ei 19 (by omega), ei 20 (by omega), m36, m37]
      rcases c9 with c9 | ⟨q, q1, q2, q3, q4, q5, q6⟩
      · exact Or.inl c9
      · exact Or.inr ⟨q, q1, q2, q3, q4, q5, fun k hk => by rw [eb _ k (nz 3 (by omega)) (by rw [o3]; unfold xsc; omega) n3, em 17 k (by unfold scr; omega)]; exact q6 k hk⟩
    · rw [ei 26 (by omega), m42]
      rcases c10 with c10 | ⟨q, q1, q2, q3, q4⟩
      · exact Or.inl c10
      · exact Or.inr ⟨q, q1, q2, q3, fun k hk => by rw [eb _ k (nz 4 (by omega)) (by rw [o4]; unfold xsc; omega) n4, em 22 k (by unfold scr; omega)]; exact q4 k hk⟩
  · have ot : ow (a (6 + t)) = 6 + t := hO _ (by omega)
    refine (hy t ht).g (er _ 0 (nz _ (by omega)) (by omega) (fun e => by rw [e] at ot; omega)) (fun b hb hob => ?_) (em 3 t (by unfold scr; omega)) (em 2 t (by unfold scr; omega)) (fun k _ => el 4 _ (by unfold scr; omega))
    exact ⟨(hX.1 b hb).1, (hX.1 b hb).2, fun k => ⟨eb b k hb (by rw [hob]; unfold xsc; omega) (fun e => by rw [e] at hob; omega), hX.2.2.1 b k hb (by rw [hob]; unfold xsc; omega)⟩⟩
  · rw [QM_sl hM (by omega)]
    exact hh.fz hF (er _ _ (nz 2 (by omega)) (by omega) n2) (eb _ _ (nz 2 (by omega)) (by rw [o2]; unfold xsc; omega) n2) (er _ _ (nz 2 (by omega)) (by omega) n2)
  · refine hm.g hF (ei 12 (by omega)) (em 0 45 (by unfold scr; omega)) (fun i hi => er _ i (nz 10 (by omega)) (by omega) n10) (fun b i hb hi hob k => ?_) (fun i hi => QM_sl hM (by omega))
    have nb : b ≠ a 0 := fun e => by rw [e] at hob; omega
    exact ⟨eb b k hb (by rw [hob]; unfold xsc; omega) nb, er b k hb (by omega) nb⟩
theorem Rep.of0 (h : Rep0 a K ow u m) (hs : XT a K ow u) : Rep a K ow u m := by
  obtain ⟨h1, h2, h3, h4, h5⟩ := h
  exact ⟨h1, h2, h3, h4, h5, hs⟩
theorem Rep.to0 (h : Rep a K ow u m) : Rep0 a K ow u m ∧ XT a K ow u := by
  obtain ⟨h1, h2, h3, h4, h5, h6⟩ := h
  exact ⟨⟨h1, h2, h3, h4, h5⟩, h6⟩
end XAK
